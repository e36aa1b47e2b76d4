theorem c_alElem {w : Wd} {h : Hp} {a e x : Nat} (ha : a < hZ h) (hk : zkd (hT h a) = 30) (he : hR h a 1 = some e) (hez : e < hZ h) (hek : zak (zkd (hT h e)) = some 6) (hx : x < hN h e) (hN' : hN h e < 2 ^ 31) : Con w mJ2_elementData cJ2_elementData 0 0 0 [.ref a, .int (nI x)] h (Rv (va_rf (hR h e x)) h) := by
  refine Con.of (by decide +kernel) rfl rfl ?_
  show V w mJ2_elementData cJ2_elementData 0 0 0 _ 0 [some (.ref a), some (.int (nI x))] [] _
  refine V_aload0 eJ2_elementData_0 rfl ?_
  refine V_getF eJ2_elementData_1 fl_J2_9_30 hk ha (v := .ref e) (by show va_rf (hR h a 1) = _; rw [he]; rfl) ?_
  refine V_iload1 eJ2_elementData_4 ?_
  refine V_aaload6 eJ2_elementData_5 hez rfl hek (zin_nI rfl hx hN').1 (nI_clamp (by omega)) ?_
  exact V_areturn eJ2_elementData_6 rfl (Or.inl ⟨_, rfl⟩) ⟨rfl, rfl⟩
theorem c_alGet {w : Wd} {h : Hp} {a e x n : Nat} (ha : a < hZ h) (hk : zkd (hT h a) = 30) (he : hR h a 1 = some e) (hez : e < hZ h) (hek : zak (zkd (hT h e)) = some 6) (hs : hI h a 2 = nI n) (hx : x < n) (hn : n ≤ hN h e) (hN' : hN h e < 2 ^ 31) : Con w mJ2_get cJ2_get 3 0 0 [.ref a, .int (nI x)] h (Rv (va_rf (hR h e x)) h) := by
  refine Con.of (by decide +kernel) rfl rfl ?_
  show V w mJ2_get cJ2_get 3 0 0 _ 0 [some (.ref a), some (.int (nI x))] [] _
  refine V_iload1 eJ2_get_0 ?_
  refine V_aload0 eJ2_get_1 rfl ?_
  refine V_getF eJ2_get_2 fl_J2_48_30 hk ha (v := .int (nI n)) (by show Value.int (hI h a 2) = _; rw [hs]) ?_
  refine C_static eJ2_get_5 lmJ3_checkIndex q164 q165 (c_ckIx3 hx (by omega)) rfl rfl rfl rfl ?_
  refine V_pop rfl eJ2_get_8 ?_
  refine V_aload0 eJ2_get_9 rfl ?_
  refine V_iload1 eJ2_get_10 ?_
  refine C_virtual (k := 30) eJ2_get_11 lmJ2_elementData q170 q171 rfl rfl q172 ha hk (c_alElem ha hk he hez hek (by omega) hN') rfl rfl rfl rfl ?_
  exact V_areturn eJ2_get_14 rfl (Or.inl ⟨_, rfl⟩) ⟨rfl, rfl⟩
