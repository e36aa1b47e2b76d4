theorem mint_tag : ∀ j, j < 21 → mint j = true → mtag j = 120 + j := by decide
theorem MJ.mb {h0 : Hp} {m : Nat} {h : Hp} {ad : Nat → Nat} (H : MJ h0 m h ad [20, 19, 18, 17, 16, 15, 14, 12, 11, 10, 9, 8, 2, 1]) : MB h m ad := by
  obtain ⟨a, b, c, d, f, g, k⟩ := H
  have key : ∀ j, (mint j = true ∨ mlong j = true) → j ∈ [20, 19, 18, 17, 16, 15, 14, 12, 11, 10, 9, 8, 2, 1] := by
    intro j hj
    have : j < 21 := by rcases hj with q | q; exact (mint_lt q).2; have := mlong_lt q; omega
    revert hj; revert this; revert j; decide
  have inj : ∀ i, i ∈ [20, 19, 18, 17, 16, 15, 14, 12, 11, 10, 9, 8, 2, 1] → ∀ j, j ∈ [20, 19, 18, 17, 16, 15, 14, 12, 11, 10, 9, 8, 2, 1] → mtag i = mtag j → i = j := by decide
  refine ⟨a, fun j hj => ?_, fun j hj => ?_⟩
  · obtain ⟨p1, p2, p3, p4, p5, p6, p7⟩ := b j (key j (Or.inl hj))
    have ht : mtag j = 120 + j := mint_tag j (mint_lt hj).2 hj
    refine ⟨p1, p2.trans ht, p3, p5, fun x hx => ?_⟩
    have hl := mint_lt hj
    obtain ⟨i, i1, i2⟩ := c x (by omega)
    have := (b i i1).2.1
    rw [← i2, hx, ← ht] at this
    rw [i2, inj j (key j (Or.inl hj)) i i1 this]
  · obtain ⟨p1, p2, p3, p4, p5, p6, p7⟩ := b j (key j (Or.inr hj))
    have ht : mtag j = 170 + j := by unfold mtag; rw [if_pos hj]
    refine ⟨p1, p2.trans ht, p3, p5, fun x hx => ?_⟩
    have hl := mlong_lt hj
    obtain ⟨i, i1, i2⟩ := c x (by omega)
    have := (b i i1).2.1
    rw [← i2, hx, ← ht] at this
    rw [i2, inj j (key j (Or.inr hj)) i i1 this]
theorem MJ.ms0 {h0 : Hp} {m : Nat} {h : Hp} {ad : Nat → Nat} {js : List Nat} (H : MJ h0 m h ad js) : h = ms h (fun _ _ => 0) (fun _ _ => 0) (fun _ => 0) (fun _ => 0) := by
  obtain ⟨a, b, c, d, f, g, k⟩ := H
  have e1 : hI h = fun x => if hT h x = 2 then (fun _ => 0) else if hT h x = 121 then (fun _ => 0) else if 121 < hT h x ∧ hT h x < 141 then (fun _ => 0) else hI h x := by
    funext x
    split
    · next q => rw [a.2.2 x q]; exact f
    · split
      · next q => obtain ⟨i, i1, i2⟩ := c x (by omega); rw [i2]; exact (b i i1).2.2.2.2.2.1
      · split
        · next q => obtain ⟨i, i1, i2⟩ := c x (by omega); rw [i2]; exact (b i i1).2.2.2.2.2.1
        · rfl
  have e2 : hL h = fun x => if 183 < hT h x ∧ hT h x < 189 then (fun _ => 0) else hL h x := by
    funext x
    split
    · next q => obtain ⟨i, i1, i2⟩ := c x (by omega); rw [i2]; exact (b i i1).2.2.2.2.2.2
    · rfl
  show (hT h, hN h, hI h, hL h, hR h, hZ h) = (hT h, hN h, _, _, hR h, hZ h)
  rw [← e1, ← e2]
theorem c_minit {w : Wd} {h : Hp} {m : Nat} (hm : hT h m = 2 ∧ m < hZ h ∧ ∀ b, hT h b = 2 → b = m) (hno : ∀ b, ¬ ((120 < hT h b ∧ hT h b < 141) ∨ (183 < hT h b ∧ hT h b < 189))) (hf : hI h m = fun _ => 0) : Con w mX2_init cX2_init 1 14 169200 [.ref m] h (fun o h' => o = .returned none ∧ ∃ hb ad, MB hb m ad ∧ h' = ms hb (fun _ _ => 0) (fun _ _ => 0) (fun _ => 0) (zfold (fun k S => va_up S (200 + k) (-1)) 4 (fun _ => 0)) ∧ MJ h m hb ad [20, 19, 18, 17, 16, 15, 14, 12, 11, 10, 9, 8, 2, 1]) := by
  refine Con.of (by decide +kernel) rfl rfl ?_
  show V w mX2_init cX2_init 1 14 169200 _ 0 [some (.ref m), none] [] _
  refine V_wf (fun h999 => ?_)
  have hJ0 : MJ h m h (fun _ => 0) [] := ⟨hm, fun j q => absurd q (by simp), fun b q => absurd q (hno b), h999, hf, Nat.le_refl _, fun b _ _ => ⟨rfl, rfl, rfl, rfl, rfl⟩⟩
  obtain ⟨ad0, had0⟩ : ∃ T, T = (fun _ : Nat => 0) := ⟨_, rfl⟩
  rw [← had0] at hJ0
  refine V_aload0 eX2_init_0 rfl ?_
  refine V_objectinit eX2_init_1 q1894 q180 q181 rfl rfl ?_
  refine V_aload0 eX2_init_4 rfl ?_
  refine V_ldc (v := 83840) eX2_init_5 q1895 ?_
  refine V_newarray (sb := 85360) 121 0 (N := 83840) eX2_init_7 rfl rfl rfl q585 rfl (by decide) (by decide) (by decide) ?_
  refine V_putR (r := some (hZ h)) eX2_init_9 fl_X2_8_2 (by rw [hT_nwn _ _ _ (by have := hJ0.1.2.1; omega), hJ0.1.1]; rfl) (by have := hJ0.1.2.1; rw [hZ_nw]; omega) (Or.inr ⟨rfl, rfl, rfl, _, q1896, rfl⟩) (Or.inr ⟨_, rfl⟩) ?_
  obtain ⟨h1, hh1⟩ : ∃ T, T = wR (nw h (121 + 1000 * 0) 83840) m (va_up (hR (nw h (121 + 1000 * 0) 83840) m) 1 (some (hZ h))) := ⟨_, rfl⟩
  rw [← hh1]
  have hJ1 := hJ0.step 1 (by decide) (by decide) hh1
  obtain ⟨ad1, had1⟩ : ∃ T, T = va_up ad0 1 (hZ h) := ⟨_, rfl⟩
  rw [← had1] at hJ1
  refine V_aload0 eX2_init_12 rfl ?_
  refine V_ldc (v := 83840) eX2_init_13 q1895 ?_
  refine V_newarray (sb := 1520) 122 0 (N := 83840) eX2_init_15 rfl rfl rfl q585 rfl (by decide) (by decide) (by decide) ?_
  refine V_putR (r := some (hZ h1)) eX2_init_17 fl_X2_14_2 (by rw [hT_nwn _ _ _ (by have := hJ1.1.2.1; omega), hJ1.1.1]; rfl) (by have := hJ1.1.2.1; rw [hZ_nw]; omega) (Or.inr ⟨rfl, rfl, rfl, _, q1897, rfl⟩) (Or.inr ⟨_, rfl⟩) ?_
  obtain ⟨h2, hh2⟩ : ∃ T, T = wR (nw h1 (122 + 1000 * 0) 83840) m (va_up (hR (nw h1 (122 + 1000 * 0) 83840) m) 2 (some (hZ h1))) := ⟨_, rfl⟩
  rw [← hh2]
  have hJ2 := hJ1.step 2 (by decide) (by decide) hh2
  obtain ⟨ad2, had2⟩ : ∃ T, T = va_up ad1 2 (hZ h1) := ⟨_, rfl⟩
  rw [← had2] at hJ2
  refine V_aload0 eX2_init_20 rfl ?_
  refine V_bipush (v := 6) (by decide) eX2_init_21 ?_
  refine V_newarray (sb := 1514) 128 0 (N := 6) eX2_init_23 rfl rfl rfl q585 rfl (by decide) (by decide) (by decide) ?_
  refine V_putR (r := some (hZ h2)) eX2_init_25 fl_X2_17_2 (by rw [hT_nwn _ _ _ (by have := hJ2.1.2.1; omega), hJ2.1.1]; rfl) (by have := hJ2.1.2.1; rw [hZ_nw]; omega) (Or.inr ⟨rfl, rfl, rfl, _, q1903, rfl⟩) (Or.inr ⟨_, rfl⟩) ?_
  obtain ⟨h3, hh3⟩ : ∃ T, T = wR (nw h2 (128 + 1000 * 0) 6) m (va_up (hR (nw h2 (128 + 1000 * 0) 6) m) 8 (some (hZ h2))) := ⟨_, rfl⟩
  rw [← hh3]
  have hJ3 := hJ2.step 8 (by decide) (by decide) hh3
  obtain ⟨ad3, had3⟩ : ∃ T, T = va_up ad2 8 (hZ h2) := ⟨_, rfl⟩
  rw [← had3] at hJ3
  refine V_aload0 eX2_init_28 rfl ?_
  refine V_bipush (v := 80) (by decide) eX2_init_29 ?_
  refine V_newarray (sb := 1434) 129 0 (N := 80) eX2_init_31 rfl rfl rfl q585 rfl (by decide) (by decide) (by decide) ?_
  refine V_putR (r := some (hZ h3)) eX2_init_33 fl_X2_20_2 (by rw [hT_nwn _ _ _ (by have := hJ3.1.2.1; omega), hJ3.1.1]; rfl) (by have := hJ3.1.2.1; rw [hZ_nw]; omega) (Or.inr ⟨rfl, rfl, rfl, _, q1904, rfl⟩) (Or.inr ⟨_, rfl⟩) ?_
  obtain ⟨h4, hh4⟩ : ∃ T, T = wR (nw h3 (129 + 1000 * 0) 80) m (va_up (hR (nw h3 (129 + 1000 * 0) 80) m) 9 (some (hZ h3))) := ⟨_, rfl⟩
  rw [← hh4]
  have hJ4 := hJ3.step 9 (by decide) (by decide) hh4
  obtain ⟨ad4, had4⟩ : ∃ T, T = va_up ad3 9 (hZ h3) := ⟨_, rfl⟩
  rw [← had4] at hJ4
  refine V_aload0 eX2_init_36 rfl ?_
  refine V_bipush (v := 80) (by decide) eX2_init_37 ?_
  refine V_newarray (sb := 1354) 130 0 (N := 80) eX2_init_39 rfl rfl rfl q585 rfl (by decide) (by decide) (by decide) ?_
  refine V_putR (r := some (hZ h4)) eX2_init_41 fl_X2_23_2 (by rw [hT_nwn _ _ _ (by have := hJ4.1.2.1; omega), hJ4.1.1]; rfl) (by have := hJ4.1.2.1; rw [hZ_nw]; omega) (Or.inr ⟨rfl, rfl, rfl, _, q1905, rfl⟩) (Or.inr ⟨_, rfl⟩) ?_
  obtain ⟨h5, hh5⟩ : ∃ T, T = wR (nw h4 (130 + 1000 * 0) 80) m (va_up (hR (nw h4 (130 + 1000 * 0) 80) m) 10 (some (hZ h4))) := ⟨_, rfl⟩
  rw [← hh5]
  have hJ5 := hJ4.step 10 (by decide) (by decide) hh5
  obtain ⟨ad5, had5⟩ : ∃ T, T = va_up ad4 10 (hZ h4) := ⟨_, rfl⟩
  rw [← had5] at hJ5
  refine V_aload0 eX2_init_44 rfl ?_
  refine V_bipush (v := 7) (by decide) eX2_init_45 ?_
  refine V_newarray (sb := 1347) 131 0 (N := 7) eX2_init_47 rfl rfl rfl q585 rfl (by decide) (by decide) (by decide) ?_
  refine V_putR (r := some (hZ h5)) eX2_init_49 fl_X2_26_2 (by rw [hT_nwn _ _ _ (by have := hJ5.1.2.1; omega), hJ5.1.1]; rfl) (by have := hJ5.1.2.1; rw [hZ_nw]; omega) (Or.inr ⟨rfl, rfl, rfl, _, q1906, rfl⟩) (Or.inr ⟨_, rfl⟩) ?_
  obtain ⟨h6, hh6⟩ : ∃ T, T = wR (nw h5 (131 + 1000 * 0) 7) m (va_up (hR (nw h5 (131 + 1000 * 0) 7) m) 11 (some (hZ h5))) := ⟨_, rfl⟩
  rw [← hh6]
  have hJ6 := hJ5.step 11 (by decide) (by decide) hh6
  obtain ⟨ad6, had6⟩ : ∃ T, T = va_up ad5 11 (hZ h5) := ⟨_, rfl⟩
  rw [← had6] at hJ6
  refine V_aload0 eX2_init_52 rfl ?_
  refine V_bipush (v := 7) (by decide) eX2_init_53 ?_
  refine V_newarray (sb := 1340) 132 0 (N := 7) eX2_init_55 rfl rfl rfl q585 rfl (by decide) (by decide) (by decide) ?_
  refine V_putR (r := some (hZ h6)) eX2_init_57 fl_X2_29_2 (by rw [hT_nwn _ _ _ (by have := hJ6.1.2.1; omega), hJ6.1.1]; rfl) (by have := hJ6.1.2.1; rw [hZ_nw]; omega) (Or.inr ⟨rfl, rfl, rfl, _, q1907, rfl⟩) (Or.inr ⟨_, rfl⟩) ?_
  obtain ⟨h7, hh7⟩ : ∃ T, T = wR (nw h6 (132 + 1000 * 0) 7) m (va_up (hR (nw h6 (132 + 1000 * 0) 7) m) 12 (some (hZ h6))) := ⟨_, rfl⟩
  rw [← hh7]
  have hJ7 := hJ6.step 12 (by decide) (by decide) hh7
  obtain ⟨ad7, had7⟩ : ∃ T, T = va_up ad6 12 (hZ h6) := ⟨_, rfl⟩
  rw [← had7] at hJ7
  refine V_aload0 eX2_init_60 rfl ?_
  refine V_sipush (v := 400) (by decide) eX2_init_61 ?_
  refine V_newarray (sb := 940) 184 0 (N := 400) eX2_init_64 rfl rfl rfl q586 rfl (by decide) (by decide) (by decide) ?_
  refine V_putR (r := some (hZ h7)) eX2_init_66 fl_X2_32_2 (by rw [hT_nwn _ _ _ (by have := hJ7.1.2.1; omega), hJ7.1.1]; rfl) (by have := hJ7.1.2.1; rw [hZ_nw]; omega) (Or.inr ⟨rfl, rfl, rfl, _, q1909, rfl⟩) (Or.inr ⟨_, rfl⟩) ?_
  obtain ⟨h8, hh8⟩ : ∃ T, T = wR (nw h7 (184 + 1000 * 0) 400) m (va_up (hR (nw h7 (184 + 1000 * 0) 400) m) 14 (some (hZ h7))) := ⟨_, rfl⟩
  rw [← hh8]
  have hJ8 := hJ7.step 14 (by decide) (by decide) hh8
  obtain ⟨ad8, had8⟩ : ∃ T, T = va_up ad7 14 (hZ h7) := ⟨_, rfl⟩
  rw [← had8] at hJ8
  refine V_aload0 eX2_init_69 rfl ?_
  refine V_sipush (v := 400) (by decide) eX2_init_70 ?_
  refine V_newarray (sb := 540) 185 0 (N := 400) eX2_init_73 rfl rfl rfl q586 rfl (by decide) (by decide) (by decide) ?_
  refine V_putR (r := some (hZ h8)) eX2_init_75 fl_X2_36_2 (by rw [hT_nwn _ _ _ (by have := hJ8.1.2.1; omega), hJ8.1.1]; rfl) (by have := hJ8.1.2.1; rw [hZ_nw]; omega) (Or.inr ⟨rfl, rfl, rfl, _, q1910, rfl⟩) (Or.inr ⟨_, rfl⟩) ?_
  obtain ⟨h9, hh9⟩ : ∃ T, T = wR (nw h8 (185 + 1000 * 0) 400) m (va_up (hR (nw h8 (185 + 1000 * 0) 400) m) 15 (some (hZ h8))) := ⟨_, rfl⟩
  rw [← hh9]
  have hJ9 := hJ8.step 15 (by decide) (by decide) hh9
  obtain ⟨ad9, had9⟩ : ∃ T, T = va_up ad8 15 (hZ h8) := ⟨_, rfl⟩
  rw [← had9] at hJ9
  refine V_aload0 eX2_init_78 rfl ?_
  refine V_sipush (v := 400) (by decide) eX2_init_79 ?_
  refine V_newarray (sb := 140) 186 0 (N := 400) eX2_init_82 rfl rfl rfl q586 rfl (by decide) (by decide) (by decide) ?_
  refine V_putR (r := some (hZ h9)) eX2_init_84 fl_X2_39_2 (by rw [hT_nwn _ _ _ (by have := hJ9.1.2.1; omega), hJ9.1.1]; rfl) (by have := hJ9.1.2.1; rw [hZ_nw]; omega) (Or.inr ⟨rfl, rfl, rfl, _, q1911, rfl⟩) (Or.inr ⟨_, rfl⟩) ?_
  obtain ⟨h10, hh10⟩ : ∃ T, T = wR (nw h9 (186 + 1000 * 0) 400) m (va_up (hR (nw h9 (186 + 1000 * 0) 400) m) 16 (some (hZ h9))) := ⟨_, rfl⟩
  rw [← hh10]
  have hJ10 := hJ9.step 16 (by decide) (by decide) hh10
  obtain ⟨ad10, had10⟩ : ∃ T, T = va_up ad9 16 (hZ h9) := ⟨_, rfl⟩
  rw [← had10] at hJ10
  refine V_aload0 eX2_init_87 rfl ?_
  refine V_bipush (v := 20) (by decide) eX2_init_88 ?_
  refine V_newarray (sb := 120) 187 0 (N := 20) eX2_init_90 rfl rfl rfl q586 rfl (by decide) (by decide) (by decide) ?_
  refine V_putR (r := some (hZ h10)) eX2_init_92 fl_X2_42_2 (by rw [hT_nwn _ _ _ (by have := hJ10.1.2.1; omega), hJ10.1.1]; rfl) (by have := hJ10.1.2.1; rw [hZ_nw]; omega) (Or.inr ⟨rfl, rfl, rfl, _, q1912, rfl⟩) (Or.inr ⟨_, rfl⟩) ?_
  obtain ⟨h11, hh11⟩ : ∃ T, T = wR (nw h10 (187 + 1000 * 0) 20) m (va_up (hR (nw h10 (187 + 1000 * 0) 20) m) 17 (some (hZ h10))) := ⟨_, rfl⟩
  rw [← hh11]
  have hJ11 := hJ10.step 17 (by decide) (by decide) hh11
  obtain ⟨ad11, had11⟩ : ∃ T, T = va_up ad10 17 (hZ h10) := ⟨_, rfl⟩
  rw [← had11] at hJ11
  refine V_aload0 eX2_init_95 rfl ?_
  refine V_bipush (v := 20) (by decide) eX2_init_96 ?_
  refine V_newarray (sb := 100) 188 0 (N := 20) eX2_init_98 rfl rfl rfl q586 rfl (by decide) (by decide) (by decide) ?_
  refine V_putR (r := some (hZ h11)) eX2_init_100 fl_X2_45_2 (by rw [hT_nwn _ _ _ (by have := hJ11.1.2.1; omega), hJ11.1.1]; rfl) (by have := hJ11.1.2.1; rw [hZ_nw]; omega) (Or.inr ⟨rfl, rfl, rfl, _, q1913, rfl⟩) (Or.inr ⟨_, rfl⟩) ?_
  obtain ⟨h12, hh12⟩ : ∃ T, T = wR (nw h11 (188 + 1000 * 0) 20) m (va_up (hR (nw h11 (188 + 1000 * 0) 20) m) 18 (some (hZ h11))) := ⟨_, rfl⟩
  rw [← hh12]
  have hJ12 := hJ11.step 18 (by decide) (by decide) hh12
  obtain ⟨ad12, had12⟩ : ∃ T, T = va_up ad11 18 (hZ h11) := ⟨_, rfl⟩
  rw [← had12] at hJ12
  refine V_aload0 eX2_init_103 rfl ?_
  refine V_bipush (v := 60) (by decide) eX2_init_104 ?_
  refine V_newarray (sb := 40) 139 0 (N := 60) eX2_init_106 rfl rfl rfl q585 rfl (by decide) (by decide) (by decide) ?_
  refine V_putR (r := some (hZ h12)) eX2_init_108 fl_X2_48_2 (by rw [hT_nwn _ _ _ (by have := hJ12.1.2.1; omega), hJ12.1.1]; rfl) (by have := hJ12.1.2.1; rw [hZ_nw]; omega) (Or.inr ⟨rfl, rfl, rfl, _, q1914, rfl⟩) (Or.inr ⟨_, rfl⟩) ?_
  obtain ⟨h13, hh13⟩ : ∃ T, T = wR (nw h12 (139 + 1000 * 0) 60) m (va_up (hR (nw h12 (139 + 1000 * 0) 60) m) 19 (some (hZ h12))) := ⟨_, rfl⟩
  rw [← hh13]
  have hJ13 := hJ12.step 19 (by decide) (by decide) hh13
  obtain ⟨ad13, had13⟩ : ∃ T, T = va_up ad12 19 (hZ h12) := ⟨_, rfl⟩
  rw [← had13] at hJ13
  refine V_aload0 eX2_init_111 rfl ?_
  refine V_bipush (v := 40) (by decide) eX2_init_112 ?_
  refine V_newarray (sb := 0) 140 0 (N := 40) eX2_init_114 rfl rfl rfl q585 rfl (by decide) (by decide) (by decide) ?_
  refine V_putR (r := some (hZ h13)) eX2_init_116 fl_X2_51_2 (by rw [hT_nwn _ _ _ (by have := hJ13.1.2.1; omega), hJ13.1.1]; rfl) (by have := hJ13.1.2.1; rw [hZ_nw]; omega) (Or.inr ⟨rfl, rfl, rfl, _, q1915, rfl⟩) (Or.inr ⟨_, rfl⟩) ?_
  obtain ⟨h14, hh14⟩ : ∃ T, T = wR (nw h13 (140 + 1000 * 0) 40) m (va_up (hR (nw h13 (140 + 1000 * 0) 40) m) 20 (some (hZ h13))) := ⟨_, rfl⟩
  rw [← hh14]
  have hJ14 := hJ13.step 20 (by decide) (by decide) hh14
  obtain ⟨ad14, had14⟩ : ∃ T, T = va_up ad13 20 (hZ h13) := ⟨_, rfl⟩
  rw [← had14] at hJ14
  have mb := hJ14.mb
  rw [hJ14.ms0]
  refine V_iconst (v := 0) (by decide) eX2_init_119 ?_
  refine V_istore1 rfl eX2_init_120 rfl ?_
  refine V_iload1 eX2_init_121 ?_
  refine V_iconst (v := 4) (by decide) eX2_init_122 ?_
  refine V_if_icmpge eX2_init_123 (fun c => absurd c (by decide)) (fun c => ?_)
  refine V_aload0 eX2_init_126 rfl ?_
  refine M_ga mb rfl eX2_init_127 fl_X2_8_2 ?_
  refine V_sipush (v := 200) (by decide) eX2_init_130 ?_
  refine V_iload1 eX2_init_133 ?_
  refine V_iadd eX2_init_134 ?_
  refine V_iconst (v := -1) (by decide) eX2_init_135 ?_
  refine M_ss (n := 200 + 0) mb (zadd rfl rfl) (by omega) eX2_init_136 ?_
  refine V_iinc1 rfl eX2_init_137 rfl (v := 1) (by decide) ?_
  rw [show (0 : Int32) + (1 : Int32) = (1 : Int32) from by decide]
  refine V_goto eX2_init_140 ?_
  refine V_iload1 eX2_init_121 ?_
  refine V_iconst (v := 4) (by decide) eX2_init_122 ?_
  refine V_if_icmpge eX2_init_123 (fun c => absurd c (by decide)) (fun c => ?_)
  refine V_aload0 eX2_init_126 rfl ?_
  refine M_ga mb rfl eX2_init_127 fl_X2_8_2 ?_
  refine V_sipush (v := 200) (by decide) eX2_init_130 ?_
  refine V_iload1 eX2_init_133 ?_
  refine V_iadd eX2_init_134 ?_
  refine V_iconst (v := -1) (by decide) eX2_init_135 ?_
  refine M_ss (n := 200 + 1) mb (zadd rfl rfl) (by omega) eX2_init_136 ?_
  refine V_iinc1 rfl eX2_init_137 rfl (v := 1) (by decide) ?_
  rw [show (1 : Int32) + (1 : Int32) = (2 : Int32) from by decide]
  refine V_goto eX2_init_140 ?_
  refine V_iload1 eX2_init_121 ?_
  refine V_iconst (v := 4) (by decide) eX2_init_122 ?_
  refine V_if_icmpge eX2_init_123 (fun c => absurd c (by decide)) (fun c => ?_)
  refine V_aload0 eX2_init_126 rfl ?_
  refine M_ga mb rfl eX2_init_127 fl_X2_8_2 ?_
  refine V_sipush (v := 200) (by decide) eX2_init_130 ?_
  refine V_iload1 eX2_init_133 ?_
  refine V_iadd eX2_init_134 ?_
  refine V_iconst (v := -1) (by decide) eX2_init_135 ?_
  refine M_ss (n := 200 + 2) mb (zadd rfl rfl) (by omega) eX2_init_136 ?_
  refine V_iinc1 rfl eX2_init_137 rfl (v := 1) (by decide) ?_
  rw [show (2 : Int32) + (1 : Int32) = (3 : Int32) from by decide]
  refine V_goto eX2_init_140 ?_
  refine V_iload1 eX2_init_121 ?_
  refine V_iconst (v := 4) (by decide) eX2_init_122 ?_
  refine V_if_icmpge eX2_init_123 (fun c => absurd c (by decide)) (fun c => ?_)
  refine V_aload0 eX2_init_126 rfl ?_
  refine M_ga mb rfl eX2_init_127 fl_X2_8_2 ?_
  refine V_sipush (v := 200) (by decide) eX2_init_130 ?_
  refine V_iload1 eX2_init_133 ?_
  refine V_iadd eX2_init_134 ?_
  refine V_iconst (v := -1) (by decide) eX2_init_135 ?_
  refine M_ss (n := 200 + 3) mb (zadd rfl rfl) (by omega) eX2_init_136 ?_
  refine V_iinc1 rfl eX2_init_137 rfl (v := 1) (by decide) ?_
  rw [show (3 : Int32) + (1 : Int32) = (4 : Int32) from by decide]
  refine V_goto eX2_init_140 ?_
  refine V_iload1 eX2_init_121 ?_
  refine V_iconst (v := 4) (by decide) eX2_init_122 ?_
  refine V_if_icmpge eX2_init_123 (fun c => ?_) (fun c => absurd (show (4 : Int32) ≤ (4 : Int32) by decide) c)
  exact V_return (x := ()) eX2_init_143 rfl ⟨rfl, _, _, mb, rfl, hJ14⟩
