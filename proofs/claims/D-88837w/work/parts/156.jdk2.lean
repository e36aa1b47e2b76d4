/-! lists -/
theorem c_alSize {w : Wd} {h : Hp} {a : Nat} (ha : a < hZ h) (hk : zkd (hT h a) = 30) : Con w mJ2_size cJ2_size 0 0 0 [.ref a] h (Rv (.int (hI h a 2)) h) := by
  refine Con.of (by decide +kernel) rfl rfl ?_
  show V w mJ2_size cJ2_size 0 0 0 _ 0 [some (.ref a)] [] _
  refine V_aload0 eJ2_size_0 rfl ?_
  refine V_getF eJ2_size_1 fl_J2_48_30 hk ha (v := .int (hI h a 2)) rfl ?_
  exact V_ireturn eJ2_size_4 rfl ⟨rfl, rfl⟩
theorem c_ckIx3 {w : Wd} {h : Hp} {x n : Nat} (hx : x < n) (hn : n < 2 ^ 31) : Con w mJ3_checkIndex cJ3_checkIndex 2 0 0 [.int (nI x), .int (nI n)] h (Rv (.int (nI x)) h) := by
  refine Con.of (by decide +kernel) rfl rfl ?_
  show V w mJ3_checkIndex cJ3_checkIndex 2 0 0 _ 0 [some (.int (nI x)), some (.int (nI n))] [] _
  refine V_iload0 eJ3_checkIndex_0 ?_
  refine V_iload1 eJ3_checkIndex_1 ?_
  refine V_aconst_null eJ3_checkIndex_2 ?_
  refine C_static eJ3_checkIndex_3 lmJ4_checkIndex q167 q168 (c_ckIx hx hn none) rfl rfl rfl rfl ?_
  exact V_ireturn eJ3_checkIndex_6 rfl ⟨rfl, rfl⟩
