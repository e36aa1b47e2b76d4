theorem c_slope {w : Wd} {h : Hp} {m : Nat} {ad : Nat → Nat} {A : Nat → Nat → Int32} {B : Nat → Nat → Int64} {F S : Nat → Int32} (mb : MB h m ad) (a : Int32) (b : Int32) (d : Int32) (what : Int32) {nt : Nat} (hnt : S 1 = nI nt) (hnt6 : nt ≤ 6) (htc : ∀ t, t < nt → ∃ c, S (180 + t) = nI c ∧ c < 80) (hI : Ih S) {no : Nat} (ho : Ior S no) : Con w mX2_slope cX2_slope 5 0 0 [.ref m, .int a, .int b, .int d, .int what] (ms h A B F S) (Rv (.int (o_slope S A a b d what).1) (ms h (va_up (va_up A 9 (o_slope S A a b d what).2.1) 10 (o_slope S A a b d what).2.2) B F S)) := by
  refine Con.of (by decide +kernel) rfl rfl ?_
  show V w mX2_slope cX2_slope 5 0 0 _ 0 [some (.ref m), some (.int a), some (.int b), some (.int d), some (.int what), none, none, none, none, none] [] _
  rw [ms_extA (show A = (va_up (va_up A 9 (A 9)) 10 (A 10)) from by
    funext q
    by_cases e9 : q = 9
    · subst e9; rfl
    by_cases e10 : q = 10
    · subst e10; rfl
    simp only [va_up, if_neg e9, if_neg e10])]
  refine V_aload0 eX2_slope_0 rfl ?_
  refine V_iload1 eX2_slope_1 ?_
  refine M_call mb eX2_slope_2 lmX2_isTown q2107 q2109 rfl qs65 (c_isTown mb _) rfl rfl rfl rfl ?_
  refine V_ifeq eX2_slope_5 (fun c5 => ?_) (fun c5 => ?_)
  · refine V_iconst (v := -1) (by decide) eX2_slope_32 ?_
    have hE : ((-1 : Int32), (A 9), (A 10)) = o_slope S A a b d what := by simp only [o_slope, if_pos c5]
    exact V_ireturn eX2_slope_33 rfl (by rw [← hE]; exact ⟨rfl, rfl⟩)
  · obtain ⟨x, hx, rfl⟩ := zinC c5 hnt (by omega)
    have hxc : (nI x).toNatClampNeg = x := nI_clamp (by omega)
    obtain ⟨ca, hca0, ha8⟩ := htc x hx
    refine V_aload0 eX2_slope_8 rfl ?_
    refine V_iload2 eX2_slope_9 ?_
    refine M_call mb eX2_slope_10 lmX2_isTown q2107 q2109 rfl qs65 (c_isTown mb _) rfl rfl rfl rfl ?_
    refine V_ifeq eX2_slope_13 (fun c13 => ?_) (fun c13 => ?_)
    · refine V_iconst (v := -1) (by decide) eX2_slope_32 ?_
      have hE : ((-1 : Int32), (A 9), (A 10)) = o_slope S A (nI x) b d what := by simp only [o_slope, hxc, if_neg c5, if_pos c13]
      exact V_ireturn eX2_slope_33 rfl (by rw [← hE]; exact ⟨rfl, rfl⟩)
    · obtain ⟨y, hy, rfl⟩ := zinC c13 hnt (by omega)
      have hyc : (nI y).toNatClampNeg = y := nI_clamp (by omega)
      obtain ⟨cb, hcb0, hb8⟩ := htc y hy
      refine V_iload4 eX2_slope_16 ?_
      refine V_iflt eX2_slope_18 (fun c18 => ?_) (fun c18 => ?_)
      · refine V_iconst (v := -1) (by decide) eX2_slope_32 ?_
        have hE : ((-1 : Int32), (A 9), (A 10)) = o_slope S A (nI x) (nI y) d what := by simp only [o_slope, hxc, hyc, if_neg c5, if_neg c13, if_pos c18]
        exact V_ireturn eX2_slope_33 rfl (by rw [← hE]; exact ⟨rfl, rfl⟩)
      · refine V_iload4 eX2_slope_21 ?_
        refine V_iconst (v := 2) (by decide) eX2_slope_23 ?_
        refine V_bipush (v := 9) (by decide) eX2_slope_24 ?_
        refine C0_static eX2_slope_26 lmX2_in q1966 q1967 (c_in _ _ _ _) rfl rfl rfl rfl ?_
        refine V_ifeq eX2_slope_29 (fun c29 => ?_) (fun c29 => ?_)
        · refine V_iload1 eX2_slope_34 ?_
          refine V_iload2 eX2_slope_35 ?_
          refine V_if_icmpeq eX2_slope_36 (fun c36 => ?_) (fun c36 => ?_)
          · refine V_bipush (v := -2) (by decide) eX2_slope_46 ?_
            have hE : ((-2 : Int32), (A 9), (A 10)) = o_slope S A (nI x) (nI y) d what := by simp only [o_slope, hxc, hyc, if_neg c5, if_neg c13, if_neg c18, if_pos c29, if_pos c36]
            exact V_ireturn eX2_slope_48 rfl (by rw [← hE]; exact ⟨rfl, rfl⟩)
          · refine V_iload3 eX2_slope_39 ?_
            refine C0_static eX2_slope_40 lmX2_isDay q1994 q1995 (c_isDay _ _) rfl rfl rfl rfl ?_
            refine V_ifne eX2_slope_43 (fun c43 => ?_) (fun c43 => ?_)
            · have hca : sn S (180 + x) = ca := sn_of hca0 (by omega)
              have hcb : sn S (180 + y) = cb := sn_of hcb0 (by omega)
              refine V_aload0 eX2_slope_49 rfl ?_
              refine M_ga mb rfl eX2_slope_50 fl_X2_8_2 ?_
              refine V_sipush (v := 180) (by decide) eX2_slope_53 ?_
              refine V_iload1 eX2_slope_56 ?_
              refine V_iadd eX2_slope_57 ?_
              refine M_sl (n := (180 + x)) mb (zadd rfl rfl) (by omega) hca0 eX2_slope_58 ?_
              refine V_istore5 rfl eX2_slope_59 rfl ?_
              refine V_aload0 eX2_slope_61 rfl ?_
              refine M_ga mb rfl eX2_slope_62 fl_X2_8_2 ?_
              refine V_sipush (v := 180) (by decide) eX2_slope_65 ?_
              refine V_iload2 eX2_slope_68 ?_
              refine V_iadd eX2_slope_69 ?_
              refine M_sl (n := (180 + y)) mb (zadd rfl rfl) (by omega) hcb0 eX2_slope_70 ?_
              refine V_istore6 rfl eX2_slope_71 rfl ?_
              refine V_aload0 eX2_slope_73 rfl ?_
              refine V_iload5 eX2_slope_74 ?_
              refine V_iload6 eX2_slope_76 ?_
              refine V_iload3 eX2_slope_78 ?_
              refine M_callU mb eX2_slope_79 lmX2_works q2186 q2188 rfl qs76 (c_works mb _ _ _ ho (wk_start hI rfl hb8)) rfl rfl rfl rfl ?_
              obtain ⟨R_1, hR_1⟩ : ∃ T, T = o_works S (va_up (va_up A 9 (A 9)) 10 (A 10)) (nI ca) (nI cb) d := ⟨_, rfl⟩
              rw [ms_extA (show va_up (va_up (va_up A 9 (A 9)) 10 (A 10)) 9 (o_works S (va_up (va_up A 9 (A 9)) 10 (A 10)) (nI ca) (nI cb) d) = (va_up (va_up A 9 R_1) 10 (A 10)) from by
                  rw [hR_1]; funext q
                  by_cases e9 : q = 9
                  · subst e9; rfl
                  by_cases e10 : q = 10
                  · subst e10; rfl
                  simp only [va_up, if_neg e9, if_neg e10])]
              have hok := works_ok (S := S) (fr := nI ca) (to := nI cb) (d := d) (A := (va_up (va_up A 9 (A 9)) 10 (A 10))) hI rfl hb8
              rw [← hR_1] at hok
              refine V_aload0 eX2_slope_82 rfl ?_
              refine M_ga mb rfl eX2_slope_83 fl_X2_20_2 ?_
              refine V_iload5 eX2_slope_86 ?_
              refine M_al (j := 9) (n := ca) mb rfl (by decide) rfl (by show _ < _; first | decide | (simp only [mlen]; omega)) (show _ = (R_1 ca) from rfl) eX2_slope_88 ?_
              refine V_iconst (v := -1) (by decide) eX2_slope_89 ?_
              refine V_if_icmpne eX2_slope_90 (fun c90 => ?_) (fun c90 => ?_)
              · refine V_iload4 eX2_slope_96 ?_
                refine V_ifne eX2_slope_98 (fun c98 => ?_) (fun c98 => ?_)
                · refine V_iconst (v := 1) (by decide) eX2_slope_109 ?_
                  refine V_istore7 rfl eX2_slope_110 rfl ?_
                  refine V_aload0 eX2_slope_112 rfl ?_
                  refine M_ga mb rfl eX2_slope_113 fl_X2_23_2 ?_
                  refine V_iconst (v := 0) (by decide) eX2_slope_116 ?_
                  refine V_iload5 eX2_slope_117 ?_
                  refine M_as (j := 10) (n := 0) mb rfl (by decide) rfl (by show _ < _; first | decide | (simp only [mlen]; omega)) eX2_slope_119 ?_
                  obtain ⟨R_2, hR_2⟩ : ∃ T, T = va_up (A 10) 0 (nI ca) := ⟨_, rfl⟩
                  rw [ms_extA (show va_up (va_up (va_up A 9 R_1) 10 (A 10)) 10 (va_up ((va_up (va_up A 9 R_1) 10 (A 10)) 10) 0 (nI ca)) = (va_up (va_up A 9 R_1) 10 R_2) from by
                      rw [hR_2]; funext q
                      by_cases e9 : q = 9
                      · subst e9; rfl
                      by_cases e10 : q = 10
                      · subst e10; rfl
                      simp only [va_up, if_neg e9, if_neg e10])]
                  have hS0 := sl_0 (w := R_2) (L := R_1) ha8 c90 hok.1 (by rw [hR_2]; exact va_up_self _ _ _)
                  refine V.le (zle_c (zle_n (zle_n (zle_c (zle_c (zle_c (zle_c (zle_c (zle_n (zle_n zle_0)))))))))) (zwl (P := fun n120 => ∀ q120 : Int32 × (Nat → Int32), zwh (K_slope_120 S d ca cb R_1) zBIG ((1 : Int32), R_2) = zwh (K_slope_120 S d ca cb R_1) n120 q120 → (slS R_1 q120.1 q120.2) → (slM R_1 q120.1 q120.2 ≤ n120) → V w mX2_slope cX2_slope 5 0 0 (ms h (va_up (va_up A 9 R_1) 10 q120.2) B F S) 120 [some (.ref m), none, none, some (.int d), some (.int what), some (.int (nI ca)), some (.int (nI cb)), some (.int q120.1), none, none] [] _) (fun n120 ih120 q120 hR120 hS hM => ?_) zBIG ((1 : Int32), R_2) rfl hS0 (slM_0 _ _ _))
                  obtain ⟨nn, cur, hn1, hn2, hcu, hc8, hL1, hcnt⟩ := id hS
                  have hnn : q120.1.toNatClampNeg - 1 = nn := by rw [hn1, nI_clamp (by omega)]; omega
                  have hcu2 : sn q120.2 nn = cur := sn_of hcu (by omega)
                  refine V_aload0 eX2_slope_120 rfl ?_
                  refine M_ga mb rfl eX2_slope_121 fl_X2_23_2 ?_
                  refine V_iload7 eX2_slope_124 ?_
                  refine V_iconst (v := 1) (by decide) eX2_slope_126 ?_
                  refine V_isub eX2_slope_127 ?_
                  refine M_al (j := 10) (n := nn) mb rfl (by decide) (zsub1 hn1) (by show _ < _; first | decide | (simp only [mlen]; omega)) hcu eX2_slope_128 ?_
                  refine V_iload6 eX2_slope_129 ?_
                  refine V_if_icmpeq eX2_slope_131 (fun c131 => ?_) (fun c131 => ?_)
                  · have hK120 : K_slope_120 S d ca cb R_1 q120 = none := by simp only [K_slope_120, hxc, hyc, hca, hcb, hnn, hcu2, if_pos c131]
                    have hq120 : q120 = zwh (K_slope_120 S d ca cb R_1) zBIG ((1 : Int32), R_2) := (hR120.trans (zwh_n hK120)).symm
                    refine V_iload4 eX2_slope_232 ?_
                    refine V_iconst (v := 1) (by decide) eX2_slope_234 ?_
                    refine V_if_icmpne eX2_slope_235 (fun c235 => ?_) (fun c235 => ?_)
                    · obtain ⟨wh, hw1, rfl⟩ := what10 c18 c29 c98 c235
                      have hwh : (nI (wh + 10)).toNatClampNeg - 10 = wh := by rw [nI_clamp hw1]; omega
                      refine V_iload4 eX2_slope_243 ?_
                      refine V_bipush (v := 10) (by decide) eX2_slope_245 ?_
                      refine V_isub eX2_slope_247 ?_
                      refine V_iload7 eX2_slope_248 ?_
                      refine V_if_icmpge eX2_slope_250 (fun c250 => ?_) (fun c250 => ?_)
                      · refine V_iconst (v := -1) (by decide) eX2_slope_266 ?_
                        have hE : ((-1 : Int32), R_1, q120.2) = o_slope S A (nI x) (nI y) d (nI (wh + 10)) := by simp only [o_slope, ← hR_1, ← hR_2, ← hq120, hxc, hyc, hca, hcb, hnn, hcu2, hwh, if_neg c5, if_neg c13, if_neg c18, if_pos c29, if_neg c36, if_neg c43, if_neg c90, if_neg c98, if_neg c235, if_pos c250]
                        exact V_ireturn eX2_slope_267 rfl (by rw [← hE]; exact ⟨rfl, rfl⟩)
                      · have hwn := nnle (a := nn + 1) (b := wh) (by rw [← hn1]; exact fun q => c250 (by rw [show nI (wh + 10) - (10 : Int32) = nI wh from zsubm (m := 10) rfl rfl]; exact q)) (by omega) (by omega)
                        refine V_aload0 eX2_slope_253 rfl ?_
                        refine M_ga mb rfl eX2_slope_254 fl_X2_23_2 ?_
                        refine V_iload4 eX2_slope_257 ?_
                        refine V_bipush (v := 10) (by decide) eX2_slope_259 ?_
                        refine V_isub eX2_slope_261 ?_
                        refine M_al (j := 10) (n := wh) mb rfl (by decide) (zsubm (m := 10) rfl rfl) (by show _ < _; first | decide | (simp only [mlen]; omega)) (show _ = (q120.2 wh) from rfl) eX2_slope_262 ?_
                        refine V_goto eX2_slope_263 ?_
                        have hE : ((q120.2 wh), R_1, q120.2) = o_slope S A (nI x) (nI y) d (nI (wh + 10)) := by simp only [o_slope, ← hR_1, ← hR_2, ← hq120, hxc, hyc, hca, hcb, hnn, hcu2, hwh, if_neg c5, if_neg c13, if_neg c18, if_pos c29, if_neg c36, if_neg c43, if_neg c90, if_neg c98, if_neg c235, if_neg c250]
                        exact V_ireturn eX2_slope_267 rfl (by rw [← hE]; exact ⟨rfl, rfl⟩)
                    · refine V_iload7 eX2_slope_238 ?_
                      refine V_goto eX2_slope_240 ?_
                      have hE : (q120.1, R_1, q120.2) = o_slope S A (nI x) (nI y) d what := by simp only [o_slope, ← hR_1, ← hR_2, ← hq120, hxc, hyc, hca, hcb, hnn, hcu2, if_neg c5, if_neg c13, if_neg c18, if_pos c29, if_neg c36, if_neg c43, if_neg c90, if_neg c98, if_pos c235]
                      exact V_ireturn eX2_slope_267 rfl (by rw [← hE]; exact ⟨rfl, rfl⟩)
                  · refine V_aload0 eX2_slope_134 rfl ?_
                    refine M_ga mb rfl eX2_slope_135 fl_X2_23_2 ?_
                    refine V_iload7 eX2_slope_138 ?_
                    refine V_iconst (v := 1) (by decide) eX2_slope_140 ?_
                    refine V_isub eX2_slope_141 ?_
                    refine M_al (j := 10) (n := nn) mb rfl (by decide) (zsub1 hn1) (by show _ < _; first | decide | (simp only [mlen]; omega)) hcu eX2_slope_142 ?_
                    refine V_istore8 rfl eX2_slope_143 rfl ?_
                    have hex := sl_ex hok.1 hok.2 hc8 (fun q => c131 (by rw [q, nI_clamp (by omega)])) hL1
                    refine V_iconst (v := 0) (by decide) eX2_slope_145 ?_
                    refine V_istore9 rfl eX2_slope_146 rfl ?_
                    refine V.le (zle_c (zle_n (zle_n (zle_c (zle_c (zle_c (zle_c (zle_c (zle_c (zle_c zle_0)))))))))) (zwl (P := fun n148 => ∀ q148 : Int32, zwh (K_slope_148 S d ca cb R_1 cur) zBIG (0 : Int32) = zwh (K_slope_148 S d ca cb R_1 cur) n148 q148 → (∃ c, q148 = nI c ∧ ∀ b, b < c → ¬ slG S (nI ca) (nI cb) d R_1 cur b) → (80 - q148.toNatClampNeg ≤ n148) → V w mX2_slope cX2_slope 5 0 0 (ms h (va_up (va_up A 9 R_1) 10 q120.2) B F S) 148 [some (.ref m), none, none, some (.int d), some (.int what), some (.int (nI ca)), some (.int (nI cb)), some (.int q120.1), some (.int (nI cur)), some (.int q148)] [] _) (fun n148 ih148 q148 hR148 hB hM2 => ?_) zBIG (0 : Int32) rfl ⟨0, rfl, fun b q => absurd q (by omega)⟩ (by show 80 - _ ≤ 100000000; omega))
                    obtain ⟨c, hc1, hc2⟩ := id hB
                    have hc80 : c < 80 := by
                      rcases Nat.lt_or_ge c 80 with q | q
                      · exact q
                      · obtain ⟨b, hb, hg⟩ := hex; exact absurd hg (hc2 b (by omega))
                    have hcc : q148.toNatClampNeg = c := by rw [hc1]; exact nI_clamp (by omega)
                    rw [hc1]
                    refine V_iload8 eX2_slope_148 ?_
                    refine V_iload9 eX2_slope_150 ?_
                    refine C0_static eX2_slope_152 lmX2_isBeside q2130 q2131 (c_isBeside _ _ _) rfl rfl rfl rfl ?_
                    refine V_ifeq eX2_slope_155 (fun c155 => ?_) (fun c155 => ?_)
                    · refine V_iincN9 rfl eX2_slope_211 rfl ?_
                      refine V_goto eX2_slope_214 ?_
                      have hK148 : K_slope_148 S d ca cb R_1 cur q148 = some (nI (c + 1)) := by simp only [K_slope_148, hxc, hyc, hca, hcb, hnn, hcu2, hcc, if_pos c155]
                      have hng : ¬ slG S (nI ca) (nI cb) d R_1 cur c := fun g => by first | exact absurd g.1 (by rw [bI_0.mp c155]; decide) | exact g.2.1 c166 | exact g.2.2.1 c182 | exact c208 g.2.2.2
                      obtain ⟨n148, rfl⟩ : ∃ k, n148 = k + 1 := ⟨n148 - 1, by rw [hcc] at hM2; omega⟩
                      exact V.le (zle_c (zle_n (zle_n (zle_c (zle_c (zle_c (zle_c (zle_c (zle_c (zle_c zle_0)))))))))) (ih148 n148 rfl (nI (c + 1)) (hR148.trans (zwh_s hK148))  ⟨c + 1, rfl, fun b q => by rcases (show b < c ∨ b = c by omega) with r | r; exact hc2 b r; subst r; exact hng⟩ (by rw [nI_clamp (by omega)]; rw [hcc] at hM2; omega))
                    · refine V_aload0 eX2_slope_158 rfl ?_
                      refine M_ga mb rfl eX2_slope_159 fl_X2_20_2 ?_
                      refine V_iload9 eX2_slope_162 ?_
                      refine M_al (j := 9) (n := c) mb rfl (by decide) rfl (by show _ < _; first | decide | (simp only [mlen]; omega)) (show _ = (R_1 c) from rfl) eX2_slope_164 ?_
                      refine V_iconst (v := -1) (by decide) eX2_slope_165 ?_
                      refine V_if_icmpeq eX2_slope_166 (fun c166 => ?_) (fun c166 => ?_)
                      · refine V_iincN9 rfl eX2_slope_211 rfl ?_
                        refine V_goto eX2_slope_214 ?_
                        have hK148 : K_slope_148 S d ca cb R_1 cur q148 = some (nI (c + 1)) := by simp only [K_slope_148, hxc, hyc, hca, hcb, hnn, hcu2, hcc, if_neg c155, if_pos c166]
                        have hng : ¬ slG S (nI ca) (nI cb) d R_1 cur c := fun g => by first | exact absurd g.1 (by rw [bI_0.mp c155]; decide) | exact g.2.1 c166 | exact g.2.2.1 c182 | exact c208 g.2.2.2
                        obtain ⟨n148, rfl⟩ : ∃ k, n148 = k + 1 := ⟨n148 - 1, by rw [hcc] at hM2; omega⟩
                        exact V.le (zle_c (zle_n (zle_n (zle_c (zle_c (zle_c (zle_c (zle_c (zle_c (zle_c zle_0)))))))))) (ih148 n148 rfl (nI (c + 1)) (hR148.trans (zwh_s hK148))  ⟨c + 1, rfl, fun b q => by rcases (show b < c ∨ b = c by omega) with r | r; exact hc2 b r; subst r; exact hng⟩ (by rw [nI_clamp (by omega)]; rw [hcc] at hM2; omega))
                      · refine V_aload0 eX2_slope_169 rfl ?_
                        refine V_iload8 eX2_slope_170 ?_
                        refine V_iload9 eX2_slope_172 ?_
                        refine V_iload5 eX2_slope_174 ?_
                        refine V_iload6 eX2_slope_176 ?_
                        refine V_iload3 eX2_slope_178 ?_
                        refine M_call mb eX2_slope_179 lmX2_canStep q2190 q2192 rfl qs77 (c_canStep mb cur c _ _ _ (by omega) (by omega) ho) rfl rfl rfl rfl ?_
                        refine V_ifeq eX2_slope_182 (fun c182 => ?_) (fun c182 => ?_)
                        · refine V_iincN9 rfl eX2_slope_211 rfl ?_
                          refine V_goto eX2_slope_214 ?_
                          have hK148 : K_slope_148 S d ca cb R_1 cur q148 = some (nI (c + 1)) := by simp only [K_slope_148, hxc, hyc, hca, hcb, hnn, hcu2, hcc, if_neg c155, if_neg c166, if_pos c182]
                          have hng : ¬ slG S (nI ca) (nI cb) d R_1 cur c := fun g => by first | exact absurd g.1 (by rw [bI_0.mp c155]; decide) | exact g.2.1 c166 | exact g.2.2.1 c182 | exact c208 g.2.2.2
                          obtain ⟨n148, rfl⟩ : ∃ k, n148 = k + 1 := ⟨n148 - 1, by rw [hcc] at hM2; omega⟩
                          exact V.le (zle_c (zle_n (zle_n (zle_c (zle_c (zle_c (zle_c (zle_c (zle_c (zle_c zle_0)))))))))) (ih148 n148 rfl (nI (c + 1)) (hR148.trans (zwh_s hK148))  ⟨c + 1, rfl, fun b q => by rcases (show b < c ∨ b = c by omega) with r | r; exact hc2 b r; subst r; exact hng⟩ (by rw [nI_clamp (by omega)]; rw [hcc] at hM2; omega))
                        · refine V_aload0 eX2_slope_185 rfl ?_
                          refine V_iload8 eX2_slope_186 ?_
                          refine V_iload9 eX2_slope_188 ?_
                          refine M_call mb eX2_slope_190 lmX2_step q2155 q2157 rfl qs73 (c_step mb (a := cur) (b := c) (by omega) (by omega)) rfl rfl rfl rfl ?_
                          refine V_aload0 eX2_slope_193 rfl ?_
                          refine M_ga mb rfl eX2_slope_194 fl_X2_20_2 ?_
                          refine V_iload9 eX2_slope_197 ?_
                          refine M_al (j := 9) (n := c) mb rfl (by decide) rfl (by show _ < _; first | decide | (simp only [mlen]; omega)) (show _ = (R_1 c) from rfl) eX2_slope_199 ?_
                          refine V_iadd eX2_slope_200 ?_
                          refine V_aload0 eX2_slope_201 rfl ?_
                          refine M_ga mb rfl eX2_slope_202 fl_X2_20_2 ?_
                          refine V_iload8 eX2_slope_205 ?_
                          refine M_al (j := 9) (n := cur) mb rfl (by decide) rfl (by show _ < _; first | decide | (simp only [mlen]; omega)) (show _ = (R_1 cur) from rfl) eX2_slope_207 ?_
                          refine V_if_icmpeq eX2_slope_208 (fun c208 => ?_) (fun c208 => ?_)
                          · have hK148 : K_slope_148 S d ca cb R_1 cur q148 = none := by simp only [K_slope_148, hxc, hyc, hca, hcb, hnn, hcu2, hcc, if_neg c155, if_neg c166, if_neg c182, if_pos c208]
                            have hq148 : q148 = zwh (K_slope_148 S d ca cb R_1 cur) zBIG (0 : Int32) := (hR148.trans (zwh_n hK148)).symm
                            have hgd : slG S (nI ca) (nI cb) d R_1 cur c := ⟨bI_n0.mp c155, c166, c182, c208⟩
                            have hlt1 := slG_lt hok.1 hc8 hL1 hc80 hgd
                            have hlt2 := alt_lt hc80 (lvM_of hc80 hgd.2.1) hlt1
                            refine V_aload0 eX2_slope_217 rfl ?_
                            refine M_ga mb rfl eX2_slope_218 fl_X2_23_2 ?_
                            refine V_iload7 eX2_slope_221 ?_
                            refine V_iload9 eX2_slope_223 ?_
                            refine M_as (j := 10) (n := (nn + 1)) mb rfl (by decide) hn1 (by show _ < _; first | decide | (simp only [mlen]; omega)) eX2_slope_225 ?_
                            obtain ⟨R_3, hR_3⟩ : ∃ T, T = va_up q120.2 (nn + 1) (nI c) := ⟨_, rfl⟩
                            rw [ms_extA (show va_up (va_up (va_up A 9 R_1) 10 q120.2) 10 (va_up ((va_up (va_up A 9 R_1) 10 q120.2) 10) (nn + 1) (nI c)) = (va_up (va_up A 9 R_1) 10 R_3) from by
                                rw [hR_3]; funext q
                                by_cases e9 : q = 9
                                · subst e9; rfl
                                by_cases e10 : q = 10
                                · subst e10; rfl
                                simp only [va_up, if_neg e9, if_neg e10])]
                            refine V_iinc7 rfl eX2_slope_226 rfl (v := 1) (by decide) ?_
                            refine V_goto eX2_slope_229 ?_
                            have hK120 : K_slope_120 S d ca cb R_1 q120 = some ((q120.1 + (1 : Int32)), R_3) := by simp only [K_slope_120, ← hq148, ← hR_3, hxc, hyc, hca, hcb, hnn, hcu2, hcc, if_neg c131]
                            have hMM := sl_M hok.1 hn1 hn2 hcu hc8 hL1 hcnt hgd hc80 hR_3
                            obtain ⟨n120, rfl⟩ : ∃ k, n120 = k + 1 := ⟨n120 - 1, by omega⟩
                            exact V.le (zle_c (zle_n (zle_n (zle_c (zle_c (zle_c (zle_c (zle_c (zle_n (zle_n zle_0)))))))))) (ih120 n120 rfl ((q120.1 + (1 : Int32)), R_3) (hR120.trans (zwh_s hK120))  (sl_st hok.1 hn1 hn2 hcu hc8 hL1 hcnt hgd hc80 hR_3) (Nat.le_of_lt_succ (Nat.lt_of_lt_of_le hMM hM)))
                          · refine V_iincN9 rfl eX2_slope_211 rfl ?_
                            refine V_goto eX2_slope_214 ?_
                            have hK148 : K_slope_148 S d ca cb R_1 cur q148 = some (nI (c + 1)) := by simp only [K_slope_148, hxc, hyc, hca, hcb, hnn, hcu2, hcc, if_neg c155, if_neg c166, if_neg c182, if_neg c208]
                            have hng : ¬ slG S (nI ca) (nI cb) d R_1 cur c := fun g => by first | exact absurd g.1 (by rw [bI_0.mp c155]; decide) | exact g.2.1 c166 | exact g.2.2.1 c182 | exact c208 g.2.2.2
                            obtain ⟨n148, rfl⟩ : ∃ k, n148 = k + 1 := ⟨n148 - 1, by rw [hcc] at hM2; omega⟩
                            exact V.le (zle_c (zle_n (zle_n (zle_c (zle_c (zle_c (zle_c (zle_c (zle_c (zle_c zle_0)))))))))) (ih148 n148 rfl (nI (c + 1)) (hR148.trans (zwh_s hK148))  ⟨c + 1, rfl, fun b q => by rcases (show b < c ∨ b = c by omega) with r | r; exact hc2 b r; subst r; exact hng⟩ (by rw [nI_clamp (by omega)]; rw [hcc] at hM2; omega))
                · refine V_aload0 eX2_slope_101 rfl ?_
                  refine M_ga mb rfl eX2_slope_102 fl_X2_20_2 ?_
                  refine V_iload5 eX2_slope_105 ?_
                  refine M_al (j := 9) (n := ca) mb rfl (by decide) rfl (by show _ < _; first | decide | (simp only [mlen]; omega)) (show _ = (R_1 ca) from rfl) eX2_slope_107 ?_
                  have hE : ((R_1 ca), R_1, (A 10)) = o_slope S A (nI x) (nI y) d what := by simp only [o_slope, ← hR_1, hxc, hyc, hca, hcb, if_neg c5, if_neg c13, if_neg c18, if_pos c29, if_neg c36, if_neg c43, if_neg c90, if_pos c98]
                  exact V_ireturn eX2_slope_108 rfl (by rw [← hE]; exact ⟨rfl, rfl⟩)
              · refine V_bipush (v := -5) (by decide) eX2_slope_93 ?_
                have hE : ((-5 : Int32), R_1, (A 10)) = o_slope S A (nI x) (nI y) d what := by simp only [o_slope, ← hR_1, hxc, hyc, hca, hcb, if_neg c5, if_neg c13, if_neg c18, if_pos c29, if_neg c36, if_neg c43, if_pos c90]
                exact V_ireturn eX2_slope_95 rfl (by rw [← hE]; exact ⟨rfl, rfl⟩)
            · refine V_bipush (v := -2) (by decide) eX2_slope_46 ?_
              have hE : ((-2 : Int32), (A 9), (A 10)) = o_slope S A (nI x) (nI y) d what := by simp only [o_slope, hxc, hyc, if_neg c5, if_neg c13, if_neg c18, if_pos c29, if_neg c36, if_pos c43]
              exact V_ireturn eX2_slope_48 rfl (by rw [← hE]; exact ⟨rfl, rfl⟩)
        · refine V_iconst (v := -1) (by decide) eX2_slope_32 ?_
          have hE : ((-1 : Int32), (A 9), (A 10)) = o_slope S A (nI x) (nI y) d what := by simp only [o_slope, hxc, hyc, if_neg c5, if_neg c13, if_neg c18, if_neg c29]
          exact V_ireturn eX2_slope_33 rfl (by rw [← hE]; exact ⟨rfl, rfl⟩)

