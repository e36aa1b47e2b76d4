theorem c_acInit {w : Wd} {h : Hp} (a : Nat) : Con w mJ0_init cJ0_init 1 0 0 [.ref a] h (Ru h) := by
  refine Con.of (by decide +kernel) rfl rfl ?_
  show V w mJ0_init cJ0_init 1 0 0 _ 0 [some (.ref a)] [] _
  refine V_aload0 eJ0_init_0 rfl ?_
  refine V_objectinit eJ0_init_1 q316 q180 q181 rfl rfl ?_
  exact V_return (x := ()) eJ0_init_4 rfl ⟨rfl, rfl⟩
theorem c_aliInit {w : Wd} {h : Hp} {a : Nat} (ha : a < hZ h) (hk : zkd (hT h a) = 30) : Con w mJ1_init cJ1_init 2 0 0 [.ref a] h (Ru (wI h a (va_up (hI h a) 0 0))) := by
  refine Con.of (by decide +kernel) rfl rfl ?_
  show V w mJ1_init cJ1_init 2 0 0 _ 0 [some (.ref a)] [] _
  refine V_aload0 eJ1_init_0 rfl ?_
  refine V_invokeinit eJ1_init_1 lmJ0_init rfl rfl q313 q314 (c_acInit a) (hRet_u _) rfl rfl rfl rfl (kRu (P := fun v h' => V w _ _ _ _ _ h' _ _ (v.toList ++ _) _) ?_)
  refine V_aload0 eJ1_init_4 rfl ?_
  refine V_iconst (v := 0) (by decide) eJ1_init_5 ?_
  refine V_putI eJ1_init_6 fl_J1_7_30 hk ha (Or.inl rfl) rfl ?_
  exact V_return (x := ()) eJ1_init_9 rfl ⟨rfl, rfl⟩
