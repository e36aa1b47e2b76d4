theorem c_works {w : Wd} {h : Hp} {m : Nat} {ad : Nat → Nat} {A : Nat → Nat → Int32} {B : Nat → Nat → Int64} {F S : Nat → Int32} (mb : MB h m ad) (fr : Int32) (to : Int32) (d : Int32) {no : Nat} (ho : Ior S no) (hJ : wkJ S fr to d (zfold (K_works_3 to) 80 (A 9))) : Con w mX2_works cX2_works 4 0 0 [.ref m, .int fr, .int to, .int d] (ms h A B F S) (Ru (ms h (va_up A 9 (o_works S A fr to d)) B F S)) := by
  refine Con.of (by decide +kernel) rfl rfl ?_
  show V w mX2_works cX2_works 4 0 0 _ 0 [some (.ref m), some (.int fr), some (.int to), some (.int d), none, none, none, none, none, none] [] _
  rw [ms_extA (show A = (va_up A 9 (A 9)) from by
    funext q
    by_cases e9 : q = 9
    · subst e9; rfl
    simp only [va_up, if_neg e9])]
  refine V_iconst (v := 0) (by decide) eX2_works_0 ?_
  refine V_istore4 rfl eX2_works_1 rfl ?_
  refine V.le (zle_c (zle_c (zle_c (zle_c (zle_c (zle_n (zle_n (zle_n (zle_n (zle_n zle_0)))))))))) (zloop (P := fun c => ∀ q3 : (Nat → Int32), q3 = zfold (K_works_3 to) c (A 9) → V w mX2_works cX2_works 4 0 0 (ms h (va_up A 9 q3) B F S) 3 [some (.ref m), some (.int fr), some (.int to), some (.int d), some (.int (nI c)), none, none, none, none, none] [] _) 80 (fun c hc ih3 q3 hq3  => ?_) 0 (Nat.zero_le _) (A 9) rfl )
  refine V_iload4 eX2_works_3 ?_
  refine V_bipush (v := 80) (by decide) eX2_works_5 ?_
  refine V_if_icmpge eX2_works_7 (fun c7 => ?_) (fun c7 => ?_)
  · have e3 : c = 80 := by have := nle (a := 80) c7 (by omega) (by omega); omega
    rw [e3] at hq3
    refine V_iconst (v := 1) (by decide) eX2_works_34 ?_
    refine V_istore4 rfl eX2_works_35 rfl ?_
    refine V.le (zle_c (zle_c (zle_c (zle_c (zle_c (zle_n (zle_n (zle_n (zle_n (zle_n zle_0)))))))))) (zwl (P := fun n37 => ∀ q37 : Int32 × (Nat → Int32), zwh (K_works_37 S fr to d) zBIG ((1 : Int32), q3) = zwh (K_works_37 S fr to d) n37 q37 → (wkJ2 S fr to d q37) → (wkM q37 ≤ n37) → V w mX2_works cX2_works 4 0 0 (ms h (va_up A 9 q37.2) B F S) 37 [some (.ref m), some (.int fr), some (.int to), some (.int d), some (.int q37.1), none, none, none, none, none] [] _) (fun n37 ih37 q37 hR37 hJ2 hM => ?_) zBIG ((1 : Int32), q3) rfl (wkJ2_0 (by rw [hq3]; exact hJ)) (wkM_0 (by rw [hq3]; exact hJ)))
    refine V_iload4 eX2_works_37 ?_
    refine V_ifeq eX2_works_39 (fun c39 => ?_) (fun c39 => ?_)
    · have hK37 : K_works_37 S fr to d q37 = none := by simp only [K_works_37, if_pos c39]
      have hq37 : q37 = zwh (K_works_37 S fr to d) zBIG ((1 : Int32), q3) := (hR37.trans (zwh_n hK37)).symm
      have hE : q37.2 = o_works S A fr to d := by simp only [o_works, ← hq3, ← hq37]
      exact V_return (x := ()) eX2_works_238 rfl (by rw [← hE]; exact ⟨rfl, rfl⟩)
    · refine V_iconst (v := 0) (by decide) eX2_works_42 ?_
      refine V_istore4 rfl eX2_works_43 rfl ?_
      refine V_iconst (v := 0) (by decide) eX2_works_45 ?_
      refine V_istore5 rfl eX2_works_46 rfl ?_
      refine V.le (zle_c (zle_c (zle_c (zle_c (zle_c (zle_c (zle_n (zle_n (zle_n (zle_n zle_0)))))))))) (zloop (P := fun a => ∀ q48 : Int32 × (Nat → Int32), q48 = zfold (K_works_48 S fr to d) a ((0 : Int32), q37.2) → V w mX2_works cX2_works 4 0 0 (ms h (va_up A 9 q48.2) B F S) 48 [some (.ref m), some (.int fr), some (.int to), some (.int d), some (.int q48.1), some (.int (nI a)), none, none, none, none] [] _) 80 (fun a ha ih48 q48 hq48  => ?_) 0 (Nat.zero_le _) ((0 : Int32), q37.2) rfl )
      refine V_iload5 eX2_works_48 ?_
      refine V_bipush (v := 80) (by decide) eX2_works_50 ?_
      refine V_if_icmpge eX2_works_52 (fun c52 => ?_) (fun c52 => ?_)
      · have e48 : a = 80 := by have := nle (a := 80) c52 (by omega) (by omega); omega
        rw [e48] at hq48
        refine V_goto eX2_works_235 ?_
        have hK37 : K_works_37 S fr to d q37 = some (q48.1, q48.2) := by simp only [K_works_37, ← hq48, if_neg c39]
        obtain ⟨n37, rfl⟩ : ∃ k, n37 = k + 1 := ⟨n37 - 1, by have := (wk_K hJ2 hK37).2; omega⟩
        exact V.le (zle_c (zle_c (zle_c (zle_c (zle_c (zle_n (zle_n (zle_n (zle_n (zle_n zle_0)))))))))) (ih37 n37 rfl (q48.1, q48.2) (hR37.trans (zwh_s hK37))  (wk_K hJ2 hK37).1 (by have := (wk_K hJ2 hK37).2; omega))
      · have hl48 : a < 80 := by have := nnle (a := 80) c52 (by omega) (by omega); omega
        refine V_iconst (v := 0) (by decide) eX2_works_55 ?_
        refine V_istore6 rfl eX2_works_56 rfl ?_
        refine V.le (zle_c (zle_c (zle_c (zle_c (zle_c (zle_c (zle_c (zle_n (zle_n (zle_n zle_0)))))))))) (zloop (P := fun k => ∀ q58 : Int32 × (Nat → Int32), q58 = zfold (K_works_58 S a fr to d) k (q48.1, q48.2) → V w mX2_works cX2_works 4 0 0 (ms h (va_up A 9 q58.2) B F S) 58 [some (.ref m), some (.int fr), some (.int to), some (.int d), some (.int q58.1), some (.int (nI a)), some (.int (nI k)), none, none, none] [] _) 4 (fun k hk ih58 q58 hq58  => ?_) 0 (Nat.zero_le _) (q48.1, q48.2) rfl )
        refine V_iload6 eX2_works_58 ?_
        refine V_iconst (v := 4) (by decide) eX2_works_60 ?_
        refine V_if_icmpge eX2_works_61 (fun c61 => ?_) (fun c61 => ?_)
        · have e58 : k = 4 := by have := nle (a := 4) c61 (by omega) (by omega); omega
          rw [e58] at hq58
          refine V_iincN5 rfl eX2_works_229 rfl ?_
          refine V_goto eX2_works_232 ?_
          exact V.le (zle_c (zle_c (zle_c (zle_c (zle_c (zle_c (zle_n (zle_n (zle_n (zle_n zle_0)))))))))) (ih48 hl48 (q58.1, q58.2) (by rw [zfold_s (n := a), ← hq48]; simp only [K_works_48, ← hq58])  )
        · have hl58 : k < 4 := by have := nnle (a := 4) c61 (by omega) (by omega); omega
          have J101 : ∀ (bx : Int32), K_works_58 S a fr to d k q58 = D_works_101 S a fr to d q58 bx → V w mX2_works cX2_works 4 0 0 (ms h (va_up A 9 q58.2) B F S) 101 [some (.ref m), some (.int fr), some (.int to), some (.int d), some (.int q58.1), some (.int (nI a)), some (.int (nI k)), some (.int bx), none, none] [] (Ru (ms h (va_up A 9 (o_works S A fr to d)) B F S)) := by
            intro bx hj101 
            refine V_iload7 eX2_works_101 ?_
            refine C0_static eX2_works_103 lmX2_isCell q1963 q1964 (c_isCell _ _) rfl rfl rfl rfl ?_
            refine V_ifeq eX2_works_106 (fun c106 => ?_) (fun c106 => ?_)
            · refine V_iincN6 rfl eX2_works_223 rfl ?_
              refine V_goto eX2_works_226 ?_
              exact V.le (zle_c (zle_c (zle_c (zle_c (zle_c (zle_c (zle_c (zle_n (zle_n (zle_n zle_0)))))))))) (ih58 hl58 (q58.1, q58.2) (by rw [zfold_s (n := k), ← hq58, hj101]; simp only [D_works_101, if_pos c106])  )
            · obtain ⟨b, hb, hbe⟩ := zinN (m := 79) c106 rfl (by decide)
              have hbc : (bx).toNatClampNeg = b := by rw [hbe]; exact nI_clamp (by omega)
              rw [hbe]
              refine V_aload0 eX2_works_109 rfl ?_
              refine M_ga mb rfl eX2_works_110 fl_X2_20_2 ?_
              refine V_iload7 eX2_works_113 ?_
              refine M_al (j := 9) (n := b) mb rfl (by decide) rfl (by show _ < _; first | decide | (simp only [mlen]; omega)) (show _ = (q58.2 b) from rfl) eX2_works_115 ?_
              refine V_iconst (v := -1) (by decide) eX2_works_116 ?_
              refine V_if_icmpeq eX2_works_117 (fun c117 => ?_) (fun c117 => ?_)
              · refine V_iincN6 rfl eX2_works_223 rfl ?_
                refine V_goto eX2_works_226 ?_
                exact V.le (zle_c (zle_c (zle_c (zle_c (zle_c (zle_c (zle_c (zle_n (zle_n (zle_n zle_0)))))))))) (ih58 hl58 (q58.1, q58.2) (by rw [zfold_s (n := k), ← hq58, hj101]; simp only [D_works_101, hbc, if_neg c106, if_pos c117])  )
              · refine V_aload0 eX2_works_120 rfl ?_
                refine V_iload5 eX2_works_121 ?_
                refine V_iload7 eX2_works_123 ?_
                refine V_iload1 eX2_works_125 ?_
                refine V_iload2 eX2_works_126 ?_
                refine V_iload3 eX2_works_127 ?_
                refine M_call mb eX2_works_128 lmX2_canStep q2190 q2192 rfl qs77 (c_canStep mb a b _ _ _ (by omega) (by omega) ho) rfl rfl rfl rfl ?_
                refine V_ifeq eX2_works_131 (fun c131 => ?_) (fun c131 => ?_)
                · refine V_iincN6 rfl eX2_works_223 rfl ?_
                  refine V_goto eX2_works_226 ?_
                  exact V.le (zle_c (zle_c (zle_c (zle_c (zle_c (zle_c (zle_c (zle_n (zle_n (zle_n zle_0)))))))))) (ih58 hl58 (q58.1, q58.2) (by rw [zfold_s (n := k), ← hq58, hj101]; simp only [D_works_101, hbc, if_neg c106, if_neg c117, if_pos c131])  )
                · refine V_aload0 eX2_works_134 rfl ?_
                  refine V_iload5 eX2_works_135 ?_
                  refine V_iload7 eX2_works_137 ?_
                  refine M_call mb eX2_works_139 lmX2_step q2155 q2157 rfl qs73 (c_step mb (a := a) (b := b) (by omega) (by omega)) rfl rfl rfl rfl ?_
                  refine V_aload0 eX2_works_142 rfl ?_
                  refine M_ga mb rfl eX2_works_143 fl_X2_20_2 ?_
                  refine V_iload7 eX2_works_146 ?_
                  refine M_al (j := 9) (n := b) mb rfl (by decide) rfl (by show _ < _; first | decide | (simp only [mlen]; omega)) (show _ = (q58.2 b) from rfl) eX2_works_148 ?_
                  refine V_iadd eX2_works_149 ?_
                  refine V_istore8 rfl eX2_works_150 rfl ?_
                  refine V_aload0 eX2_works_152 rfl ?_
                  refine M_ga mb rfl eX2_works_153 fl_X2_20_2 ?_
                  refine V_iload5 eX2_works_156 ?_
                  refine M_al (j := 9) (n := a) mb rfl (by decide) rfl (by show _ < _; first | decide | (simp only [mlen]; omega)) (show _ = (q58.2 a) from rfl) eX2_works_158 ?_
                  refine V_iconst (v := -1) (by decide) eX2_works_159 ?_
                  refine V_if_icmpeq eX2_works_160 (fun c160 => ?_) (fun c160 => ?_)
                  · refine V_iconst (v := 1) (by decide) eX2_works_175 ?_
                    refine V_goto eX2_works_176 ?_
                    refine V_istore9 rfl eX2_works_180 rfl ?_
                    refine V_aload0 eX2_works_182 rfl ?_
                    refine M_ga mb rfl eX2_works_183 fl_X2_20_2 ?_
                    refine V_iload5 eX2_works_186 ?_
                    refine V_iload9 eX2_works_188 ?_
                    refine V_ifeq eX2_works_190 (fun c190 => absurd c190 (by decide)) (fun c190 => ?_)
                    refine V_iload8 eX2_works_193 ?_
                    refine V_goto eX2_works_195 ?_
                    refine M_as (j := 9) (n := a) mb rfl (by decide) rfl (by show _ < _; first | decide | (simp only [mlen]; omega)) eX2_works_205 ?_
                    obtain ⟨R_1, hR_1⟩ : ∃ T, T = va_up q58.2 a ((zstep S a b) + (q58.2 b)) := ⟨_, rfl⟩
                    rw [ms_extA (show va_up (va_up A 9 q58.2) 9 (va_up ((va_up A 9 q58.2) 9) a ((zstep S a b) + (q58.2 b))) = (va_up A 9 R_1) from by
                        rw [hR_1]; funext q
                        by_cases e9 : q = 9
                        · subst e9; rfl
                        simp only [va_up, if_neg e9])]
                    refine V_iload4 eX2_works_206 ?_
                    refine V_ifne eX2_works_208 (fun c208 => ?_) (fun c208 => ?_)
                    · refine V_iconst (v := 1) (by decide) eX2_works_216 ?_
                      refine V_goto eX2_works_217 ?_
                      refine V_istore4 rfl eX2_works_221 rfl ?_
                      refine V_iincN6 rfl eX2_works_223 rfl ?_
                      refine V_goto eX2_works_226 ?_
                      exact V.le (zle_c (zle_c (zle_c (zle_c (zle_c (zle_c (zle_c (zle_n (zle_n (zle_n zle_0)))))))))) (ih58 hl58 ((1 : Int32), R_1) (by rw [zfold_s (n := k), ← hq58, hj101]; simp only [D_works_101, ← hR_1, hbc, if_neg c106, if_neg c117, if_neg c131, if_pos c160, if_neg c208])  )
                    · refine V_iload9 eX2_works_211 ?_
                      refine V_ifeq eX2_works_213 (fun c213 => absurd c213 (by decide)) (fun c213 => ?_)
                      refine V_iconst (v := 1) (by decide) eX2_works_216 ?_
                      refine V_goto eX2_works_217 ?_
                      refine V_istore4 rfl eX2_works_221 rfl ?_
                      refine V_iincN6 rfl eX2_works_223 rfl ?_
                      refine V_goto eX2_works_226 ?_
                      exact V.le (zle_c (zle_c (zle_c (zle_c (zle_c (zle_c (zle_c (zle_n (zle_n (zle_n zle_0)))))))))) (ih58 hl58 ((1 : Int32), R_1) (by rw [zfold_s (n := k), ← hq58, hj101]; simp only [D_works_101, ← hR_1, hbc, if_neg c106, if_neg c117, if_neg c131, if_pos c160, if_pos c208])  )
                  · refine V_iload8 eX2_works_163 ?_
                    refine V_aload0 eX2_works_165 rfl ?_
                    refine M_ga mb rfl eX2_works_166 fl_X2_20_2 ?_
                    refine V_iload5 eX2_works_169 ?_
                    refine M_al (j := 9) (n := a) mb rfl (by decide) rfl (by show _ < _; first | decide | (simp only [mlen]; omega)) (show _ = (q58.2 a) from rfl) eX2_works_171 ?_
                    refine V_if_icmpge eX2_works_172 (fun c172 => ?_) (fun c172 => ?_)
                    · refine V_iconst (v := 0) (by decide) eX2_works_179 ?_
                      refine V_istore9 rfl eX2_works_180 rfl ?_
                      refine V_aload0 eX2_works_182 rfl ?_
                      refine M_ga mb rfl eX2_works_183 fl_X2_20_2 ?_
                      refine V_iload5 eX2_works_186 ?_
                      refine V_iload9 eX2_works_188 ?_
                      refine V_ifeq eX2_works_190 (fun c190 => ?_) (fun c190 => absurd c190 (by decide))
                      refine V_aload0 eX2_works_198 rfl ?_
                      refine M_ga mb rfl eX2_works_199 fl_X2_20_2 ?_
                      refine V_iload5 eX2_works_202 ?_
                      refine M_al (j := 9) (n := a) mb rfl (by decide) rfl (by show _ < _; first | decide | (simp only [mlen]; omega)) (show _ = (q58.2 a) from rfl) eX2_works_204 ?_
                      refine M_as (j := 9) (n := a) mb rfl (by decide) rfl (by show _ < _; first | decide | (simp only [mlen]; omega)) eX2_works_205 ?_
                      obtain ⟨R_2, hR_2⟩ : ∃ T, T = va_up q58.2 a (q58.2 a) := ⟨_, rfl⟩
                      rw [ms_extA (show va_up (va_up A 9 q58.2) 9 (va_up ((va_up A 9 q58.2) 9) a (q58.2 a)) = (va_up A 9 R_2) from by
                          rw [hR_2]; funext q
                          by_cases e9 : q = 9
                          · subst e9; rfl
                          simp only [va_up, if_neg e9])]
                      refine V_iload4 eX2_works_206 ?_
                      refine V_ifne eX2_works_208 (fun c208 => ?_) (fun c208 => ?_)
                      · refine V_iconst (v := 1) (by decide) eX2_works_216 ?_
                        refine V_goto eX2_works_217 ?_
                        refine V_istore4 rfl eX2_works_221 rfl ?_
                        refine V_iincN6 rfl eX2_works_223 rfl ?_
                        refine V_goto eX2_works_226 ?_
                        exact V.le (zle_c (zle_c (zle_c (zle_c (zle_c (zle_c (zle_c (zle_n (zle_n (zle_n zle_0)))))))))) (ih58 hl58 ((1 : Int32), R_2) (by rw [zfold_s (n := k), ← hq58, hj101]; simp only [D_works_101, ← hR_2, hbc, if_neg c106, if_neg c117, if_neg c131, if_neg c160, if_pos c172, if_neg c208])  )
                      · refine V_iload9 eX2_works_211 ?_
                        refine V_ifeq eX2_works_213 (fun c213 => ?_) (fun c213 => absurd c213 (by decide))
                        refine V_iconst (v := 0) (by decide) eX2_works_220 ?_
                        refine V_istore4 rfl eX2_works_221 rfl ?_
                        refine V_iincN6 rfl eX2_works_223 rfl ?_
                        refine V_goto eX2_works_226 ?_
                        exact V.le (zle_c (zle_c (zle_c (zle_c (zle_c (zle_c (zle_c (zle_n (zle_n (zle_n zle_0)))))))))) (ih58 hl58 ((0 : Int32), R_2) (by rw [zfold_s (n := k), ← hq58, hj101]; simp only [D_works_101, ← hR_2, hbc, if_neg c106, if_neg c117, if_neg c131, if_neg c160, if_pos c172, if_pos c208])  )
                    · refine V_iconst (v := 1) (by decide) eX2_works_175 ?_
                      refine V_goto eX2_works_176 ?_
                      refine V_istore9 rfl eX2_works_180 rfl ?_
                      refine V_aload0 eX2_works_182 rfl ?_
                      refine M_ga mb rfl eX2_works_183 fl_X2_20_2 ?_
                      refine V_iload5 eX2_works_186 ?_
                      refine V_iload9 eX2_works_188 ?_
                      refine V_ifeq eX2_works_190 (fun c190 => absurd c190 (by decide)) (fun c190 => ?_)
                      refine V_iload8 eX2_works_193 ?_
                      refine V_goto eX2_works_195 ?_
                      refine M_as (j := 9) (n := a) mb rfl (by decide) rfl (by show _ < _; first | decide | (simp only [mlen]; omega)) eX2_works_205 ?_
                      obtain ⟨R_3, hR_3⟩ : ∃ T, T = va_up q58.2 a ((zstep S a b) + (q58.2 b)) := ⟨_, rfl⟩
                      rw [ms_extA (show va_up (va_up A 9 q58.2) 9 (va_up ((va_up A 9 q58.2) 9) a ((zstep S a b) + (q58.2 b))) = (va_up A 9 R_3) from by
                          rw [hR_3]; funext q
                          by_cases e9 : q = 9
                          · subst e9; rfl
                          simp only [va_up, if_neg e9])]
                      refine V_iload4 eX2_works_206 ?_
                      refine V_ifne eX2_works_208 (fun c208 => ?_) (fun c208 => ?_)
                      · refine V_iconst (v := 1) (by decide) eX2_works_216 ?_
                        refine V_goto eX2_works_217 ?_
                        refine V_istore4 rfl eX2_works_221 rfl ?_
                        refine V_iincN6 rfl eX2_works_223 rfl ?_
                        refine V_goto eX2_works_226 ?_
                        exact V.le (zle_c (zle_c (zle_c (zle_c (zle_c (zle_c (zle_c (zle_n (zle_n (zle_n zle_0)))))))))) (ih58 hl58 ((1 : Int32), R_3) (by rw [zfold_s (n := k), ← hq58, hj101]; simp only [D_works_101, ← hR_3, hbc, if_neg c106, if_neg c117, if_neg c131, if_neg c160, if_neg c172, if_neg c208])  )
                      · refine V_iload9 eX2_works_211 ?_
                        refine V_ifeq eX2_works_213 (fun c213 => absurd c213 (by decide)) (fun c213 => ?_)
                        refine V_iconst (v := 1) (by decide) eX2_works_216 ?_
                        refine V_goto eX2_works_217 ?_
                        refine V_istore4 rfl eX2_works_221 rfl ?_
                        refine V_iincN6 rfl eX2_works_223 rfl ?_
                        refine V_goto eX2_works_226 ?_
                        exact V.le (zle_c (zle_c (zle_c (zle_c (zle_c (zle_c (zle_c (zle_n (zle_n (zle_n zle_0)))))))))) (ih58 hl58 ((1 : Int32), R_3) (by rw [zfold_s (n := k), ← hq58, hj101]; simp only [D_works_101, ← hR_3, hbc, if_neg c106, if_neg c117, if_neg c131, if_neg c160, if_neg c172, if_pos c208])  )
          refine V_iload5 eX2_works_64 ?_
          refine V_iload6 eX2_works_66 ?_
          refine V_ifne eX2_works_68 (fun c68 => ?_) (fun c68 => ?_)
          · refine V_iload6 eX2_works_75 ?_
            refine V_iconst (v := 1) (by decide) eX2_works_77 ?_
            refine V_if_icmpne eX2_works_78 (fun c78 => ?_) (fun c78 => ?_)
            · refine V_iload6 eX2_works_85 ?_
              refine V_iconst (v := 2) (by decide) eX2_works_87 ?_
              refine V_if_icmpne eX2_works_88 (fun c88 => ?_) (fun c88 => ?_)
              · refine V_bipush (v := -10) (by decide) eX2_works_96 ?_
                refine V_iadd eX2_works_98 ?_
                refine V_istore7 rfl eX2_works_99 rfl ?_
                exact V.le (zle_c (zle_c (zle_c (zle_c (zle_c (zle_c (zle_c (zle_c (zle_n (zle_n zle_0)))))))))) (J101 ((nI a) + (-10 : Int32)) (by simp only [K_works_58, if_neg c68, if_neg c78, if_neg c88])  )
              · refine V_bipush (v := 10) (by decide) eX2_works_91 ?_
                refine V_goto eX2_works_93 ?_
                refine V_iadd eX2_works_98 ?_
                refine V_istore7 rfl eX2_works_99 rfl ?_
                exact V.le (zle_c (zle_c (zle_c (zle_c (zle_c (zle_c (zle_c (zle_c (zle_n (zle_n zle_0)))))))))) (J101 ((nI a) + (10 : Int32)) (by simp only [K_works_58, if_neg c68, if_neg c78, if_pos c88])  )
            · refine V_iconst (v := -1) (by decide) eX2_works_81 ?_
              refine V_goto eX2_works_82 ?_
              refine V_iadd eX2_works_98 ?_
              refine V_istore7 rfl eX2_works_99 rfl ?_
              exact V.le (zle_c (zle_c (zle_c (zle_c (zle_c (zle_c (zle_c (zle_c (zle_n (zle_n zle_0)))))))))) (J101 ((nI a) + (-1 : Int32)) (by simp only [K_works_58, if_neg c68, if_pos c78])  )
          · refine V_iconst (v := 1) (by decide) eX2_works_71 ?_
            refine V_goto eX2_works_72 ?_
            refine V_iadd eX2_works_98 ?_
            refine V_istore7 rfl eX2_works_99 rfl ?_
            exact V.le (zle_c (zle_c (zle_c (zle_c (zle_c (zle_c (zle_c (zle_c (zle_n (zle_n zle_0)))))))))) (J101 ((nI a) + (1 : Int32)) (by simp only [K_works_58, if_pos c68])  )
  · have hl3 : c < 80 := by have := nnle (a := 80) c7 (by omega) (by omega); omega
    refine V_aload0 eX2_works_10 rfl ?_
    refine M_ga mb rfl eX2_works_11 fl_X2_20_2 ?_
    refine V_iload4 eX2_works_14 ?_
    refine V_iload4 eX2_works_16 ?_
    refine V_iload2 eX2_works_18 ?_
    refine V_if_icmpne eX2_works_19 (fun c19 => ?_) (fun c19 => ?_)
    · refine V_iconst (v := -1) (by decide) eX2_works_26 ?_
      refine M_as (j := 9) (n := c) mb rfl (by decide) rfl (by show _ < _; first | decide | (simp only [mlen]; omega)) eX2_works_27 ?_
      obtain ⟨R_4, hR_4⟩ : ∃ T, T = va_up q3 c (-1 : Int32) := ⟨_, rfl⟩
      rw [ms_extA (show va_up (va_up A 9 q3) 9 (va_up ((va_up A 9 q3) 9) c (-1 : Int32)) = (va_up A 9 R_4) from by
          rw [hR_4]; funext q
          by_cases e9 : q = 9
          · subst e9; rfl
          simp only [va_up, if_neg e9])]
      refine V_iincN4 rfl eX2_works_28 rfl ?_
      refine V_goto eX2_works_31 ?_
      exact V.le (zle_c (zle_c (zle_c (zle_c (zle_c (zle_n (zle_n (zle_n (zle_n (zle_n zle_0)))))))))) (ih3 hl3 R_4 (by rw [zfold_s (n := c), ← hq3]; simp only [K_works_3, ← hR_4, if_neg c19])  )
    · refine V_iconst (v := 0) (by decide) eX2_works_22 ?_
      refine V_goto eX2_works_23 ?_
      refine M_as (j := 9) (n := c) mb rfl (by decide) rfl (by show _ < _; first | decide | (simp only [mlen]; omega)) eX2_works_27 ?_
      obtain ⟨R_5, hR_5⟩ : ∃ T, T = va_up q3 c (0 : Int32) := ⟨_, rfl⟩
      rw [ms_extA (show va_up (va_up A 9 q3) 9 (va_up ((va_up A 9 q3) 9) c (0 : Int32)) = (va_up A 9 R_5) from by
          rw [hR_5]; funext q
          by_cases e9 : q = 9
          · subst e9; rfl
          simp only [va_up, if_neg e9])]
      refine V_iincN4 rfl eX2_works_28 rfl ?_
      refine V_goto eX2_works_31 ?_
      exact V.le (zle_c (zle_c (zle_c (zle_c (zle_c (zle_n (zle_n (zle_n (zle_n (zle_n zle_0)))))))))) (ih3 hl3 R_5 (by rw [zfold_s (n := c), ← hq3]; simp only [K_works_3, ← hR_5, if_pos c19])  )

