/-- a new list: its array is the shared empty one -/
theorem c_alInit {w : Wd} {h : Hp} {a : Nat} (ha : a < hZ h) (hk : zkd (hT h a) = 30) : Con w mJ2_init cJ2_init 3 0 0 [.ref a] h (Ru (wR (wI h a (va_up (hI h a) 0 0)) a (va_up (hR h a) 1 (some (w.K 1))))) := by
  refine Con.of (by decide +kernel) rfl rfl ?_
  show V w mJ2_init cJ2_init 3 0 0 _ 0 [some (.ref a)] [] _
  refine V_aload0 eJ2_init_0 rfl ?_
  refine V_invokeinit eJ2_init_1 lmJ1_init rfl rfl q310 q311 (c_aliInit ha hk) (hRet_u _) rfl rfl rfl rfl (kRu (P := fun v h' => V w _ _ _ _ _ h' _ _ (v.toList ++ _) _) ?_)
  refine V_aload0 eJ2_init_4 rfl ?_
  refine V_getstatic eJ2_init_5 (List.mem_cons_self ..) q213 ?_
  refine V_putR (r := some (w.K 1)) eJ2_init_8 fl_J2_9_30 hk ha (Or.inl rfl) (Or.inr ⟨_, rfl⟩) ?_
  exact V_return (x := ()) eJ2_init_11 rfl ⟨rfl, rfl⟩
