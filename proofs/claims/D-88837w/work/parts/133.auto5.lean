theorem shl_pow : ∀ k, k ≤ 30 → (1 : Int32) <<< (nI k &&& 31) = nI (2 ^ k) := by decide +kernel
theorem pow_10 {k : Nat} (h : k ≤ 10) : 2 ^ k ≤ 1024 := Nat.pow_le_pow_right (n := 2) (by omega) h
/-- a list of papers kept in an array -/
def Lst (T : Nat → Int32) (k : Nat) : Prop := ∀ j, j < k → T j = nI (sn T j) ∧ sn T j < 60
theorem Lst.push {T : Nat → Int32} {k p : Nat} (h : Lst T k) (hp : p < 60) : Lst (va_up T k (nI p)) (k + 1) := by
  intro j hj
  unfold sn
  by_cases e : j = k
  · subst e
    rw [va_up_self, nI_clamp (by omega)]
    exact ⟨rfl, hp⟩
  · rw [va_up_ne _ _ e]
    exact h j (by omega)
def K_gauge_107 (S : Nat → Int32) (towns : Int32) (q28 : Int32 × Int32 × (Nat → Int32)) (k : Nat) : Nat → Int32 → Int32 := fun set q107 =>
    if (bI (zjoin S (sn q28.2.2) towns (q28.2.1 ^^^ (nI set)) k)) = 0 then
      if (bI (zjoin S (sn q28.2.2) towns ((q28.2.1 ^^^ (nI set)) ^^^ (-1 : Int32)) k)) = 0 then
        q107
      else
        if q107 = (-5 : Int32) then
          (nI set)
        else
          if (zmany q107) ≤ (zmany (nI set)) then
            q107
          else
            (nI set)
    else
      if q107 = (-5 : Int32) then
        (nI set)
      else
        if (zmany q107) ≤ (zmany (nI set)) then
          q107
        else
          (nI set)
def K_gauge_28 (S : Nat → Int32) : Nat → Int32 × Int32 × (Nat → Int32) → Int32 × Int32 × (Nat → Int32) := fun p q28 =>
    if (bI (decide (S (370 + p) = 3) && decide (S (790 + p) = 1))) = 0 then
      (q28.1, q28.2.1, q28.2.2)
    else
      let k := q28.1.toNatClampNeg
      let t1 := va_up q28.2.2 k (nI p)
      if (10 : Int32) ≤ (nI k) then
        ((nI (k + 1)), (q28.2.1 ||| (0 : Int32)), t1)
      else
        ((nI (k + 1)), (q28.2.1 ||| ((S (670 + p)) <<< ((nI k) &&& 31))), t1)
def o_gauge (S : Nat → Int32) (A : Nat → Nat → Int32) (np : Nat) (towns : Int32) : Int32 × (Nat → Int32) :=
  if (zin towns (0 : Int32) (((1 : Int32) <<< ((S 1) &&& 31)) - (1 : Int32))) = 0 then
    ((-2 : Int32), (A 19))
  else
    let q28 := zfold (K_gauge_28 S) np ((0 : Int32), (0 : Int32), (A 19))
    let k := q28.1.toNatClampNeg
    if (nI k) ≤ (10 : Int32) then
      let q107 := zfold (K_gauge_107 S towns q28 k) (2 ^ k) (-5 : Int32)
      (q107, q28.2.2)
    else
      ((-9 : Int32), q28.2.2)
theorem c_gauge {w : Wd} {h : Hp} {m : Nat} {ad : Nat → Nat} {A : Nat → Nat → Int32} {B : Nat → Nat → Int64} {F S : Nat → Int32} (mb : MB h m ad) (towns : Int32) {np : Nat} (hnp : S 2 = nI np) (hnp60 : np ≤ 60) : Con w mX2_gauge cX2_gauge 3 0 0 [.ref m, .int towns] (ms h A B F S) (Rv (.int (o_gauge S A np towns).1) (ms h (va_up A 19 (o_gauge S A np towns).2) B F S)) := by
  refine Con.of (by decide +kernel) rfl rfl ?_
  show V w mX2_gauge cX2_gauge 3 0 0 _ 0 [some (.ref m), some (.int towns), none, none, none, none, none, none] [] _
  rw [ms_extA (show A = (va_up A 19 (A 19)) from by
    funext q
    by_cases e19 : q = 19
    · subst e19; rfl
    simp only [va_up, if_neg e19])]
  refine V_iload1 eX2_gauge_0 ?_
  refine V_iconst (v := 0) (by decide) eX2_gauge_1 ?_
  refine V_iconst (v := 1) (by decide) eX2_gauge_2 ?_
  refine V_aload0 eX2_gauge_3 rfl ?_
  refine M_ga mb rfl eX2_gauge_4 fl_X2_8_2 ?_
  refine V_iconst (v := 1) (by decide) eX2_gauge_7 ?_
  refine M_sl (n := 1) mb rfl (by omega) rfl eX2_gauge_8 ?_
  refine V_ishl eX2_gauge_9 ?_
  refine V_iconst (v := 1) (by decide) eX2_gauge_10 ?_
  refine V_isub eX2_gauge_11 ?_
  refine C0_static eX2_gauge_12 lmX2_in q1966 q1967 (c_in _ _ _ _) rfl rfl rfl rfl ?_
  refine V_ifne eX2_gauge_15 (fun c15 => ?_) (fun c15 => ?_)
  · refine V_iconst (v := 0) (by decide) eX2_gauge_21 ?_
    refine V_istore2 rfl eX2_gauge_22 rfl ?_
    refine V_iconst (v := 0) (by decide) eX2_gauge_23 ?_
    refine V_istore3 rfl eX2_gauge_24 rfl ?_
    refine V_iconst (v := 0) (by decide) eX2_gauge_25 ?_
    refine V_istore4 rfl eX2_gauge_26 rfl ?_
    refine V.le (zle_c (zle_c (zle_c (zle_c (zle_c (zle_n (zle_n (zle_n zle_0)))))))) (zloop (P := fun p => ∀ q28 : Int32 × Int32 × (Nat → Int32), q28 = zfold (K_gauge_28 S) p ((0 : Int32), (0 : Int32), (A 19)) → (∃ k, q28.1 = nI k ∧ k ≤ p ∧ Lst q28.2.2 k) → V w mX2_gauge cX2_gauge 3 0 0 (ms h (va_up A 19 q28.2.2) B F S) 28 [some (.ref m), some (.int towns), some (.int q28.1), some (.int q28.2.1), some (.int (nI p)), none, none, none] [] _) np (fun p hp ih28 q28 hq28 hk => ?_) 0 (Nat.zero_le _) ((0 : Int32), (0 : Int32), (A 19)) rfl ⟨0, rfl, by omega, fun j q => absurd q (by omega)⟩)
    refine V_iload4 eX2_gauge_28 ?_
    refine V_aload0 eX2_gauge_30 rfl ?_
    refine M_ga mb rfl eX2_gauge_31 fl_X2_8_2 ?_
    refine V_iconst (v := 2) (by decide) eX2_gauge_34 ?_
    refine M_sl (n := 2) mb rfl (by omega) hnp eX2_gauge_35 ?_
    refine V_if_icmpge eX2_gauge_36 (fun c36 => ?_) (fun c36 => ?_)
    · have e28 : p = np := by have := nle c36 (by omega) (by omega); omega
      rw [e28] at hq28
      obtain ⟨k, hk1, hk2, hk3⟩ := id hk
      have hkc : q28.1.toNatClampNeg = k := by rw [hk1]; exact nI_clamp (by omega)
      rw [hk1]
      refine V_iload2 eX2_gauge_91 ?_
      refine V_bipush (v := 10) (by decide) eX2_gauge_92 ?_
      refine V_if_icmple eX2_gauge_94 (fun c94 => ?_) (fun c94 => ?_)
      · have hk10 : k ≤ 10 := nle (b := 10) c94 (by omega) (by omega)
        have hp10 := pow_10 hk10
        have hll := hk3
        refine V_bipush (v := -5) (by decide) eX2_gauge_100 ?_
        refine V_istore4 rfl eX2_gauge_102 rfl ?_
        refine V_iconst (v := 0) (by decide) eX2_gauge_104 ?_
        refine V_istore5 rfl eX2_gauge_105 rfl ?_
        refine V.le (zle_c (zle_c (zle_c (zle_c (zle_c (zle_c (zle_n (zle_n zle_0)))))))) (zloop (P := fun set => ∀ q107 : Int32, q107 = zfold (K_gauge_107 S towns q28 k) set (-5 : Int32) → V w mX2_gauge cX2_gauge 3 0 0 (ms h (va_up A 19 q28.2.2) B F S) 107 [some (.ref m), some (.int towns), some (.int (nI k)), some (.int q28.2.1), some (.int q107), some (.int (nI set)), none, none] [] _) (2 ^ k) (fun set hset ih107 q107 hq107  => ?_) 0 (Nat.zero_le _) (-5 : Int32) rfl )
        refine V_iload5 eX2_gauge_107 ?_
        refine V_iconst (v := 1) (by decide) eX2_gauge_109 ?_
        refine V_iload2 eX2_gauge_110 ?_
        refine V_ishl eX2_gauge_111 ?_
        refine V_if_icmpge eX2_gauge_112 (fun c112 => ?_) (fun c112 => ?_)
        · have e107 : set = 2 ^ k := by rw [shl_pow k (by omega)] at c112; have := nle c112 (by omega) (by omega); omega
          rw [e107] at hq107
          refine V_iload4 eX2_gauge_192 ?_
          have hE : (q107, q28.2.2) = o_gauge S A np towns := by simp only [o_gauge, ← hq28, ← hq107, hkc, if_neg c15, if_pos c94]
          exact V_ireturn eX2_gauge_194 rfl (by rw [← hE]; exact ⟨rfl, rfl⟩)
        · have hl107 : set < 2 ^ k := by rw [shl_pow k (by omega)] at c112; have := nnle c112 (by omega) (by omega); omega
          refine V_iload3 eX2_gauge_115 ?_
          refine V_iload5 eX2_gauge_116 ?_
          refine V_ixor eX2_gauge_118 ?_
          refine V_istore6 rfl eX2_gauge_119 rfl ?_
          refine V_aload0 eX2_gauge_121 rfl ?_
          refine V_iload1 eX2_gauge_122 ?_
          refine V_iload6 eX2_gauge_123 ?_
          refine V_iload2 eX2_gauge_125 ?_
          refine M_call mb eX2_gauge_126 lmX2_areJoined q2369 q2371 rfl qs96 (c_areJoined mb _ _ (n := k) (sn q28.2.2) (by omega) hll) rfl rfl rfl rfl ?_
          refine V_ifne eX2_gauge_129 (fun c129 => ?_) (fun c129 => ?_)
          · refine V_iconst (v := 1) (by decide) eX2_gauge_145 ?_
            refine V_goto eX2_gauge_146 ?_
            refine V_istore7 rfl eX2_gauge_150 rfl ?_
            refine V_iload7 eX2_gauge_152 ?_
            refine V_ifeq eX2_gauge_154 (fun c154 => absurd c154 (by decide)) (fun c154 => ?_)
            refine V_iload4 eX2_gauge_157 ?_
            refine V_bipush (v := -5) (by decide) eX2_gauge_159 ?_
            refine V_if_icmpeq eX2_gauge_161 (fun c161 => ?_) (fun c161 => ?_)
            · refine V_iload5 eX2_gauge_177 ?_
              refine V_goto eX2_gauge_179 ?_
              refine V_istore4 rfl eX2_gauge_184 rfl ?_
              refine V_iincN5 rfl eX2_gauge_186 rfl ?_
              refine V_goto eX2_gauge_189 ?_
              exact V.le (zle_c (zle_c (zle_c (zle_c (zle_c (zle_c (zle_n (zle_n zle_0)))))))) (ih107 hl107 (nI set) (by rw [zfold_s (n := set), ← hq107]; simp only [K_gauge_107, hkc, if_neg c129, if_pos c161])  )
            · refine V_iload5 eX2_gauge_164 ?_
              refine C0_static eX2_gauge_166 lmX2_many q2373 q2374 (c_many _ _) rfl rfl rfl rfl ?_
              refine V_iload4 eX2_gauge_169 ?_
              refine C0_static eX2_gauge_171 lmX2_many q2373 q2374 (c_many _ _) rfl rfl rfl rfl ?_
              refine V_if_icmpge eX2_gauge_174 (fun c174 => ?_) (fun c174 => ?_)
              · refine V_iload4 eX2_gauge_182 ?_
                refine V_istore4 rfl eX2_gauge_184 rfl ?_
                refine V_iincN5 rfl eX2_gauge_186 rfl ?_
                refine V_goto eX2_gauge_189 ?_
                exact V.le (zle_c (zle_c (zle_c (zle_c (zle_c (zle_c (zle_n (zle_n zle_0)))))))) (ih107 hl107 q107 (by rw [zfold_s (n := set), ← hq107]; simp only [K_gauge_107, hkc, if_neg c129, if_neg c161, if_pos c174])  )
              · refine V_iload5 eX2_gauge_177 ?_
                refine V_goto eX2_gauge_179 ?_
                refine V_istore4 rfl eX2_gauge_184 rfl ?_
                refine V_iincN5 rfl eX2_gauge_186 rfl ?_
                refine V_goto eX2_gauge_189 ?_
                exact V.le (zle_c (zle_c (zle_c (zle_c (zle_c (zle_c (zle_n (zle_n zle_0)))))))) (ih107 hl107 (nI set) (by rw [zfold_s (n := set), ← hq107]; simp only [K_gauge_107, hkc, if_neg c129, if_neg c161, if_neg c174])  )
          · refine V_aload0 eX2_gauge_132 rfl ?_
            refine V_iload1 eX2_gauge_133 ?_
            refine V_iload6 eX2_gauge_134 ?_
            refine V_iconst (v := -1) (by decide) eX2_gauge_136 ?_
            refine V_ixor eX2_gauge_137 ?_
            refine V_iload2 eX2_gauge_138 ?_
            refine M_call mb eX2_gauge_139 lmX2_areJoined q2369 q2371 rfl qs96 (c_areJoined mb _ _ (n := k) (sn q28.2.2) (by omega) hll) rfl rfl rfl rfl ?_
            refine V_ifeq eX2_gauge_142 (fun c142 => ?_) (fun c142 => ?_)
            · refine V_iconst (v := 0) (by decide) eX2_gauge_149 ?_
              refine V_istore7 rfl eX2_gauge_150 rfl ?_
              refine V_iload7 eX2_gauge_152 ?_
              refine V_ifeq eX2_gauge_154 (fun c154 => ?_) (fun c154 => absurd c154 (by decide))
              refine V_iload4 eX2_gauge_182 ?_
              refine V_istore4 rfl eX2_gauge_184 rfl ?_
              refine V_iincN5 rfl eX2_gauge_186 rfl ?_
              refine V_goto eX2_gauge_189 ?_
              exact V.le (zle_c (zle_c (zle_c (zle_c (zle_c (zle_c (zle_n (zle_n zle_0)))))))) (ih107 hl107 q107 (by rw [zfold_s (n := set), ← hq107]; simp only [K_gauge_107, hkc, if_pos c129, if_pos c142])  )
            · refine V_iconst (v := 1) (by decide) eX2_gauge_145 ?_
              refine V_goto eX2_gauge_146 ?_
              refine V_istore7 rfl eX2_gauge_150 rfl ?_
              refine V_iload7 eX2_gauge_152 ?_
              refine V_ifeq eX2_gauge_154 (fun c154 => absurd c154 (by decide)) (fun c154 => ?_)
              refine V_iload4 eX2_gauge_157 ?_
              refine V_bipush (v := -5) (by decide) eX2_gauge_159 ?_
              refine V_if_icmpeq eX2_gauge_161 (fun c161 => ?_) (fun c161 => ?_)
              · refine V_iload5 eX2_gauge_177 ?_
                refine V_goto eX2_gauge_179 ?_
                refine V_istore4 rfl eX2_gauge_184 rfl ?_
                refine V_iincN5 rfl eX2_gauge_186 rfl ?_
                refine V_goto eX2_gauge_189 ?_
                exact V.le (zle_c (zle_c (zle_c (zle_c (zle_c (zle_c (zle_n (zle_n zle_0)))))))) (ih107 hl107 (nI set) (by rw [zfold_s (n := set), ← hq107]; simp only [K_gauge_107, hkc, if_pos c129, if_neg c142, if_pos c161])  )
              · refine V_iload5 eX2_gauge_164 ?_
                refine C0_static eX2_gauge_166 lmX2_many q2373 q2374 (c_many _ _) rfl rfl rfl rfl ?_
                refine V_iload4 eX2_gauge_169 ?_
                refine C0_static eX2_gauge_171 lmX2_many q2373 q2374 (c_many _ _) rfl rfl rfl rfl ?_
                refine V_if_icmpge eX2_gauge_174 (fun c174 => ?_) (fun c174 => ?_)
                · refine V_iload4 eX2_gauge_182 ?_
                  refine V_istore4 rfl eX2_gauge_184 rfl ?_
                  refine V_iincN5 rfl eX2_gauge_186 rfl ?_
                  refine V_goto eX2_gauge_189 ?_
                  exact V.le (zle_c (zle_c (zle_c (zle_c (zle_c (zle_c (zle_n (zle_n zle_0)))))))) (ih107 hl107 q107 (by rw [zfold_s (n := set), ← hq107]; simp only [K_gauge_107, hkc, if_pos c129, if_neg c142, if_neg c161, if_pos c174])  )
                · refine V_iload5 eX2_gauge_177 ?_
                  refine V_goto eX2_gauge_179 ?_
                  refine V_istore4 rfl eX2_gauge_184 rfl ?_
                  refine V_iincN5 rfl eX2_gauge_186 rfl ?_
                  refine V_goto eX2_gauge_189 ?_
                  exact V.le (zle_c (zle_c (zle_c (zle_c (zle_c (zle_c (zle_n (zle_n zle_0)))))))) (ih107 hl107 (nI set) (by rw [zfold_s (n := set), ← hq107]; simp only [K_gauge_107, hkc, if_pos c129, if_neg c142, if_neg c161, if_neg c174])  )
      · refine V_bipush (v := -9) (by decide) eX2_gauge_97 ?_
        have hE : ((-9 : Int32), q28.2.2) = o_gauge S A np towns := by simp only [o_gauge, ← hq28, hkc, if_neg c15, if_neg c94]
        exact V_ireturn eX2_gauge_99 rfl (by rw [← hE]; exact ⟨rfl, rfl⟩)
    · have hl28 : p < np := by have := nnle c36 (by omega) (by omega); omega
      obtain ⟨k, hk1, hk2, hk3⟩ := id hk
      have hkc : q28.1.toNatClampNeg = k := by rw [hk1]; exact nI_clamp (by omega)
      refine V_aload0 eX2_gauge_39 rfl ?_
      refine V_iload4 eX2_gauge_40 ?_
      refine M_call mb eX2_gauge_42 lmX2_isGranted q2230 q2232 rfl qs82 (c_isGranted mb (p := p) (by omega)) rfl rfl rfl rfl ?_
      refine V_ifeq eX2_gauge_45 (fun c45 => ?_) (fun c45 => ?_)
      · refine V_iincN4 rfl eX2_gauge_85 rfl ?_
        refine V_goto eX2_gauge_88 ?_
        exact V.le (zle_c (zle_c (zle_c (zle_c (zle_c (zle_n (zle_n (zle_n zle_0)))))))) (ih28 hl28 (q28.1, q28.2.1, q28.2.2) (by rw [zfold_s (n := p), ← hq28]; simp only [K_gauge_28, if_pos c45])  ⟨k, hk1, by omega, hk3⟩)
      · rw [hk1]
        refine V_aload0 eX2_gauge_48 rfl ?_
        refine M_ga mb rfl eX2_gauge_49 fl_X2_48_2 ?_
        refine V_iload2 eX2_gauge_52 ?_
        refine V_iload4 eX2_gauge_53 ?_
        refine M_as (j := 19) (n := k) mb rfl (by decide) rfl (by show _ < _; first | decide | (simp only [mlen]; omega)) eX2_gauge_55 ?_
        obtain ⟨R_1, hR_1⟩ : ∃ T, T = va_up q28.2.2 k (nI p) := ⟨_, rfl⟩
        rw [ms_extA (show va_up (va_up A 19 q28.2.2) 19 (va_up ((va_up A 19 q28.2.2) 19) k (nI p)) = (va_up A 19 R_1) from by
            rw [hR_1]; funext q
            by_cases e19 : q = 19
            · subst e19; rfl
            simp only [va_up, if_neg e19])]
        refine V_iload3 eX2_gauge_56 ?_
        refine V_iload2 eX2_gauge_57 ?_
        refine V_bipush (v := 10) (by decide) eX2_gauge_58 ?_
        refine V_if_icmpge eX2_gauge_60 (fun c60 => ?_) (fun c60 => ?_)
        · refine V_iconst (v := 0) (by decide) eX2_gauge_79 ?_
          refine V_ior eX2_gauge_80 ?_
          refine V_istore3 rfl eX2_gauge_81 rfl ?_
          refine V_iincN2 rfl eX2_gauge_82 rfl ?_
          refine V_iincN4 rfl eX2_gauge_85 rfl ?_
          refine V_goto eX2_gauge_88 ?_
          exact V.le (zle_c (zle_c (zle_c (zle_c (zle_c (zle_n (zle_n (zle_n zle_0)))))))) (ih28 hl28 ((nI (k + 1)), (q28.2.1 ||| (0 : Int32)), R_1) (by rw [zfold_s (n := p), ← hq28]; simp only [K_gauge_28, ← hR_1, hkc, if_neg c45, if_pos c60])  (by first | exact ⟨k, hk1, by omega, hk3⟩ | (rw [hR_1]; exact ⟨k + 1, rfl, by omega, hk3.push (by omega)⟩)))
        · refine V_aload0 eX2_gauge_63 rfl ?_
          refine M_ga mb rfl eX2_gauge_64 fl_X2_8_2 ?_
          refine V_sipush (v := 670) (by decide) eX2_gauge_67 ?_
          refine V_iload4 eX2_gauge_70 ?_
          refine V_iadd eX2_gauge_72 ?_
          refine M_sl (n := (670 + p)) mb (zadd rfl rfl) (by omega) rfl eX2_gauge_73 ?_
          refine V_iload2 eX2_gauge_74 ?_
          refine V_ishl eX2_gauge_75 ?_
          refine V_goto eX2_gauge_76 ?_
          refine V_ior eX2_gauge_80 ?_
          refine V_istore3 rfl eX2_gauge_81 rfl ?_
          refine V_iincN2 rfl eX2_gauge_82 rfl ?_
          refine V_iincN4 rfl eX2_gauge_85 rfl ?_
          refine V_goto eX2_gauge_88 ?_
          exact V.le (zle_c (zle_c (zle_c (zle_c (zle_c (zle_n (zle_n (zle_n zle_0)))))))) (ih28 hl28 ((nI (k + 1)), (q28.2.1 ||| ((S (670 + p)) <<< ((nI k) &&& 31))), R_1) (by rw [zfold_s (n := p), ← hq28]; simp only [K_gauge_28, ← hR_1, hkc, if_neg c45, if_neg c60])  (by first | exact ⟨k, hk1, by omega, hk3⟩ | (rw [hR_1]; exact ⟨k + 1, rfl, by omega, hk3.push (by omega)⟩)))
  · refine V_bipush (v := -2) (by decide) eX2_gauge_18 ?_
    have hE : ((-2 : Int32), (A 19)) = o_gauge S A np towns := by simp only [o_gauge, if_pos c15]
    exact V_ireturn eX2_gauge_20 rfl (by rw [← hE]; exact ⟨rfl, rfl⟩)

def K_copy_169 (y : Nat) (jj : Nat) (q128 : (Nat → Int32)) : Nat → (Nat → Int32) → (Nat → Int32) := fun k q169 =>
    let t1 := va_up q169 (((208 + (40 * y)) + jj) + k) (q128 k)
    t1
def K_copy_128 (S : Nat → Int32) (x : Nat) (ii : Nat) : Nat → (Nat → Int32) → (Nat → Int32) := fun k q128 =>
    let t1 := va_up q128 k (S (((208 + (40 * x)) + ii) + k))
    t1
def o_copy (S : Nat → Int32) (A : Nat → Nat → Int32) (sh : Int32) (i : Int32) (ot : Int32) (j : Int32) (n : Int32) : Int32 × (Nat → Int32) × (Nat → Int32) :=
  if (zin sh 0 3) = 0 then
    ((-1 : Int32), S, (A 20))
  else
    let x := sh.toNatClampNeg
    if (zin ot 0 3) = 0 then
      ((-1 : Int32), S, (A 20))
    else
      let y := ot.toNatClampNeg
      if (S (200 + x)) = (-1 : Int32) then
        ((-11 : Int32), S, (A 20))
      else
        if (S (200 + y)) = (-1 : Int32) then
          ((-11 : Int32), S, (A 20))
        else
          if (S (200 + x)) = (S (200 + y)) then
            let za := sn S (204 + x)
            let zb := sn S (204 + y)
            if n < 0 then
              ((-12 : Int32), S, (A 20))
            else
              let nn := n.toNatClampNeg
              if i < 0 then
                ((-12 : Int32), S, (A 20))
              else
                let ii := i.toNatClampNeg
                if j < 0 then
                  ((-12 : Int32), S, (A 20))
                else
                  let jj := j.toNatClampNeg
                  if ((nI za) - (nI ii)) < (nI nn) then
                    ((-12 : Int32), S, (A 20))
                  else
                    if (nI nn) ≤ ((nI zb) - (nI jj)) then
                      let q128 := zfold (K_copy_128 S x ii) nn (A 20)
                      let q169 := zfold (K_copy_169 y jj q128) nn S
                      ((nI nn), q169, q128)
                    else
                      ((-12 : Int32), S, (A 20))
          else
            ((-13 : Int32), S, (A 20))
theorem c_copy {w : Wd} {h : Hp} {m : Nat} {ad : Nat → Nat} {A : Nat → Nat → Int32} {B : Nat → Nat → Int64} {F S : Nat → Int32} (mb : MB h m ad) (sh : Int32) (i : Int32) (ot : Int32) (j : Int32) (n : Int32) (hsz : ∀ c, c < 4 → ∃ z, S (204 + c) = nI z ∧ z ≤ 40) : Con w mX2_copy cX2_copy 3 0 0 [.ref m, .int sh, .int i, .int ot, .int j, .int n] (ms h A B F S) (Rv (.int (o_copy S A sh i ot j n).1) (ms h (va_up A 20 (o_copy S A sh i ot j n).2.2) B F (o_copy S A sh i ot j n).2.1)) := by
  refine Con.of (by decide +kernel) rfl rfl ?_
  show V w mX2_copy cX2_copy 3 0 0 _ 0 [some (.ref m), some (.int sh), some (.int i), some (.int ot), some (.int j), some (.int n), none] [] _
  rw [ms_extA (show A = (va_up A 20 (A 20)) from by
    funext q
    by_cases e20 : q = 20
    · subst e20; rfl
    simp only [va_up, if_neg e20])]
  refine V_iload1 eX2_copy_0 ?_
  refine C0_static eX2_copy_1 lmX2_isSheet q2127 q2128 (c_isSheet _ _) rfl rfl rfl rfl ?_
  refine V_ifeq eX2_copy_4 (fun c4 => ?_) (fun c4 => ?_)
  · refine V_iconst (v := -1) (by decide) eX2_copy_14 ?_
    have hE : ((-1 : Int32), S, (A 20)) = o_copy S A sh i ot j n := by simp only [o_copy, if_pos c4]
    exact V_ireturn eX2_copy_15 rfl (by rw [← hE]; exact ⟨rfl, rfl⟩)
  · obtain ⟨x, hx, rfl⟩ := zinN (m := 3) c4 rfl (by decide)
    have hxc : (nI x).toNatClampNeg = x := nI_clamp (by omega)
    refine V_iload3 eX2_copy_7 ?_
    refine C0_static eX2_copy_8 lmX2_isSheet q2127 q2128 (c_isSheet _ _) rfl rfl rfl rfl ?_
    refine V_ifne eX2_copy_11 (fun c11 => ?_) (fun c11 => ?_)
    · obtain ⟨y, hy, rfl⟩ := zinN (m := 3) c11 rfl (by decide)
      have hyc : (nI y).toNatClampNeg = y := nI_clamp (by omega)
      refine V_aload0 eX2_copy_16 rfl ?_
      refine M_ga mb rfl eX2_copy_17 fl_X2_8_2 ?_
      refine V_sipush (v := 200) (by decide) eX2_copy_20 ?_
      refine V_iload1 eX2_copy_23 ?_
      refine V_iadd eX2_copy_24 ?_
      refine M_sl (n := (200 + x)) mb (zadd rfl rfl) (by omega) rfl eX2_copy_25 ?_
      refine V_iconst (v := -1) (by decide) eX2_copy_26 ?_
      refine V_if_icmpeq eX2_copy_27 (fun c27 => ?_) (fun c27 => ?_)
      · refine V_bipush (v := -11) (by decide) eX2_copy_44 ?_
        have hE : ((-11 : Int32), S, (A 20)) = o_copy S A (nI x) i (nI y) j n := by simp only [o_copy, hxc, hyc, if_neg c4, if_neg c11, if_pos c27]
        exact V_ireturn eX2_copy_46 rfl (by rw [← hE]; exact ⟨rfl, rfl⟩)
      · refine V_aload0 eX2_copy_30 rfl ?_
        refine M_ga mb rfl eX2_copy_31 fl_X2_8_2 ?_
        refine V_sipush (v := 200) (by decide) eX2_copy_34 ?_
        refine V_iload3 eX2_copy_37 ?_
        refine V_iadd eX2_copy_38 ?_
        refine M_sl (n := (200 + y)) mb (zadd rfl rfl) (by omega) rfl eX2_copy_39 ?_
        refine V_iconst (v := -1) (by decide) eX2_copy_40 ?_
        refine V_if_icmpne eX2_copy_41 (fun c41 => ?_) (fun c41 => ?_)
        · refine V_aload0 eX2_copy_47 rfl ?_
          refine M_ga mb rfl eX2_copy_48 fl_X2_8_2 ?_
          refine V_sipush (v := 200) (by decide) eX2_copy_51 ?_
          refine V_iload1 eX2_copy_54 ?_
          refine V_iadd eX2_copy_55 ?_
          refine M_sl (n := (200 + x)) mb (zadd rfl rfl) (by omega) rfl eX2_copy_56 ?_
          refine V_aload0 eX2_copy_57 rfl ?_
          refine M_ga mb rfl eX2_copy_58 fl_X2_8_2 ?_
          refine V_sipush (v := 200) (by decide) eX2_copy_61 ?_
          refine V_iload3 eX2_copy_64 ?_
          refine V_iadd eX2_copy_65 ?_
          refine M_sl (n := (200 + y)) mb (zadd rfl rfl) (by omega) rfl eX2_copy_66 ?_
          refine V_if_icmpeq eX2_copy_67 (fun c67 => ?_) (fun c67 => ?_)
          · obtain ⟨za, hza0, hza4⟩ := hsz x (by omega)
            obtain ⟨zb, hzb0, hzb4⟩ := hsz y (by omega)
            have hza : sn S (204 + x) = za := sn_of hza0 (by omega)
            have hzb : sn S (204 + y) = zb := sn_of hzb0 (by omega)
            refine V_iload5 eX2_copy_73 ?_
            refine V_iflt eX2_copy_75 (fun c75 => ?_) (fun c75 => ?_)
            · refine V_bipush (v := -12) (by decide) eX2_copy_122 ?_
              have hE : ((-12 : Int32), S, (A 20)) = o_copy S A (nI x) i (nI y) j n := by simp only [o_copy, hxc, hyc, hza, hzb, if_neg c4, if_neg c11, if_neg c27, if_neg c41, if_pos c67, if_pos c75]
              exact V_ireturn eX2_copy_124 rfl (by rw [← hE]; exact ⟨rfl, rfl⟩)
            · obtain ⟨nn, hnn, rfl⟩ := nI_of c75
              have hnnc : (nI nn).toNatClampNeg = nn := nI_clamp (by omega)
              refine V_iload2 eX2_copy_78 ?_
              refine V_iflt eX2_copy_79 (fun c79 => ?_) (fun c79 => ?_)
              · refine V_bipush (v := -12) (by decide) eX2_copy_122 ?_
                have hE : ((-12 : Int32), S, (A 20)) = o_copy S A (nI x) i (nI y) j (nI nn) := by simp only [o_copy, hxc, hyc, hza, hzb, hnnc, if_neg c4, if_neg c11, if_neg c27, if_neg c41, if_pos c67, if_neg c75, if_pos c79]
                exact V_ireturn eX2_copy_124 rfl (by rw [← hE]; exact ⟨rfl, rfl⟩)
              · obtain ⟨ii, hii, rfl⟩ := nI_of c79
                have hiic : (nI ii).toNatClampNeg = ii := nI_clamp (by omega)
                refine V_iload4 eX2_copy_82 ?_
                refine V_iflt eX2_copy_84 (fun c84 => ?_) (fun c84 => ?_)
                · refine V_bipush (v := -12) (by decide) eX2_copy_122 ?_
                  have hE : ((-12 : Int32), S, (A 20)) = o_copy S A (nI x) (nI ii) (nI y) j (nI nn) := by simp only [o_copy, hxc, hyc, hza, hzb, hnnc, hiic, if_neg c4, if_neg c11, if_neg c27, if_neg c41, if_pos c67, if_neg c75, if_neg c79, if_pos c84]
                  exact V_ireturn eX2_copy_124 rfl (by rw [← hE]; exact ⟨rfl, rfl⟩)
                · obtain ⟨jj, hjj, rfl⟩ := nI_of c84
                  have hjjc : (nI jj).toNatClampNeg = jj := nI_clamp (by omega)
                  refine V_iload5 eX2_copy_87 ?_
                  refine V_aload0 eX2_copy_89 rfl ?_
                  refine M_ga mb rfl eX2_copy_90 fl_X2_8_2 ?_
                  refine V_sipush (v := 204) (by decide) eX2_copy_93 ?_
                  refine V_iload1 eX2_copy_96 ?_
                  refine V_iadd eX2_copy_97 ?_
                  refine M_sl (n := (204 + x)) mb (zadd rfl rfl) (by omega) hza0 eX2_copy_98 ?_
                  refine V_iload2 eX2_copy_99 ?_
                  refine V_isub eX2_copy_100 ?_
                  refine V_if_icmpgt eX2_copy_101 (fun c101 => ?_) (fun c101 => ?_)
                  · refine V_bipush (v := -12) (by decide) eX2_copy_122 ?_
                    have hE : ((-12 : Int32), S, (A 20)) = o_copy S A (nI x) (nI ii) (nI y) (nI jj) (nI nn) := by simp only [o_copy, hxc, hyc, hza, hzb, hnnc, hiic, hjjc, if_neg c4, if_neg c11, if_neg c27, if_neg c41, if_pos c67, if_neg c75, if_neg c79, if_neg c84, if_pos c101]
                    exact V_ireturn eX2_copy_124 rfl (by rw [← hE]; exact ⟨rfl, rfl⟩)
                  · have h101 := zsubL (by omega) (by omega) (by omega) c101
                    refine V_iload5 eX2_copy_104 ?_
                    refine V_aload0 eX2_copy_106 rfl ?_
                    refine M_ga mb rfl eX2_copy_107 fl_X2_8_2 ?_
                    refine V_sipush (v := 204) (by decide) eX2_copy_110 ?_
                    refine V_iload3 eX2_copy_113 ?_
                    refine V_iadd eX2_copy_114 ?_
                    refine M_sl (n := (204 + y)) mb (zadd rfl rfl) (by omega) hzb0 eX2_copy_115 ?_
                    refine V_iload4 eX2_copy_116 ?_
                    refine V_isub eX2_copy_118 ?_
                    refine V_if_icmple eX2_copy_119 (fun c119 => ?_) (fun c119 => ?_)
                    · have h119 := zsubL (by omega) (by omega) (by omega) (fun q => absurd c119 (zle_nlt.mpr q))
                      refine V_iconst (v := 0) (by decide) eX2_copy_125 ?_
                      refine V_istore6 rfl eX2_copy_126 rfl ?_
                      refine V.le (zle_c (zle_c (zle_c (zle_c (zle_c (zle_c (zle_c zle_0))))))) (zloop (P := fun k => ∀ q128 : (Nat → Int32), q128 = zfold (K_copy_128 S x ii) k (A 20) → V w mX2_copy cX2_copy 3 0 0 (ms h (va_up A 20 q128) B F S) 128 [some (.ref m), some (.int (nI x)), some (.int (nI ii)), some (.int (nI y)), some (.int (nI jj)), some (.int (nI nn)), some (.int (nI k))] [] _) nn (fun k hk ih128 q128 hq128  => ?_) 0 (Nat.zero_le _) (A 20) rfl )
                      refine V_iload6 eX2_copy_128 ?_
                      refine V_iload5 eX2_copy_130 ?_
                      refine V_if_icmpge eX2_copy_132 (fun c132 => ?_) (fun c132 => ?_)
                      · have e128 : k = nn := by have := nle c132 (by omega) (by omega); omega
                        rw [e128] at hq128
                        refine V_iconst (v := 0) (by decide) eX2_copy_166 ?_
                        refine V_istore6 rfl eX2_copy_167 rfl ?_
                        refine V.le (zle_c (zle_n (zle_n (zle_c (zle_c (zle_c (zle_c zle_0))))))) (zloop (P := fun k => ∀ q169 : (Nat → Int32), q169 = zfold (K_copy_169 y jj q128) k S → V w mX2_copy cX2_copy 3 0 0 (ms h (va_up A 20 q128) B F q169) 169 [some (.ref m), none, none, some (.int (nI y)), some (.int (nI jj)), some (.int (nI nn)), some (.int (nI k))] [] _) nn (fun k hk ih169 q169 hq169  => ?_) 0 (Nat.zero_le _) S rfl )
                        refine V_iload6 eX2_copy_169 ?_
                        refine V_iload5 eX2_copy_171 ?_
                        refine V_if_icmpge eX2_copy_173 (fun c173 => ?_) (fun c173 => ?_)
                        · have e169 : k = nn := by have := nle c173 (by omega) (by omega); omega
                          rw [e169] at hq169
                          refine V_iload5 eX2_copy_208 ?_
                          have hE : ((nI nn), q169, q128) = o_copy S A (nI x) (nI ii) (nI y) (nI jj) (nI nn) := by simp only [o_copy, ← hq128, ← hq169, hxc, hyc, hza, hzb, hnnc, hiic, hjjc, if_neg c4, if_neg c11, if_neg c27, if_neg c41, if_pos c67, if_neg c75, if_neg c79, if_neg c84, if_neg c101, if_pos c119]
                          exact V_ireturn eX2_copy_210 rfl (by rw [← hE]; exact ⟨rfl, rfl⟩)
                        · have hl169 : k < nn := by have := nnle c173 (by omega) (by omega); omega
                          refine V_aload0 eX2_copy_176 rfl ?_
                          refine M_ga mb rfl eX2_copy_177 fl_X2_8_2 ?_
                          refine V_sipush (v := 208) (by decide) eX2_copy_180 ?_
                          refine V_bipush (v := 40) (by decide) eX2_copy_183 ?_
                          refine V_iload3 eX2_copy_185 ?_
                          refine V_imul eX2_copy_186 ?_
                          refine V_iadd eX2_copy_187 ?_
                          refine V_iload4 eX2_copy_188 ?_
                          refine V_iadd eX2_copy_190 ?_
                          refine V_iload6 eX2_copy_191 ?_
                          refine V_iadd eX2_copy_193 ?_
                          refine V_aload0 eX2_copy_194 rfl ?_
                          refine M_ga mb rfl eX2_copy_195 fl_X2_51_2 ?_
                          refine V_iload6 eX2_copy_198 ?_
                          refine M_al (j := 20) (n := k) mb rfl (by decide) rfl (by show _ < _; first | decide | (simp only [mlen]; omega)) (show _ = (q128 k) from rfl) eX2_copy_200 ?_
                          refine M_ss (n := (((208 + (40 * y)) + jj) + k)) mb (zadd (zadd (zadd rfl (zmul rfl rfl)) rfl) rfl) (by omega) eX2_copy_201 ?_
                          obtain ⟨S_1, hS_1⟩ : ∃ T, T = va_up q169 (((208 + (40 * y)) + jj) + k) (q128 k) := ⟨_, rfl⟩
                          rw [← hS_1]
                          refine V_iincN6 rfl eX2_copy_202 rfl ?_
                          refine V_goto eX2_copy_205 ?_
                          exact V.le (zle_c (zle_n (zle_n (zle_c (zle_c (zle_c (zle_c zle_0))))))) (ih169 hl169 S_1 (by rw [zfold_s (n := k), ← hq169]; simp only [K_copy_169, ← hS_1, hxc, hyc, hza, hzb, hnnc, hiic, hjjc])  )
                      · have hl128 : k < nn := by have := nnle c132 (by omega) (by omega); omega
                        refine V_aload0 eX2_copy_135 rfl ?_
                        refine M_ga mb rfl eX2_copy_136 fl_X2_51_2 ?_
                        refine V_iload6 eX2_copy_139 ?_
                        refine V_aload0 eX2_copy_141 rfl ?_
                        refine M_ga mb rfl eX2_copy_142 fl_X2_8_2 ?_
                        refine V_sipush (v := 208) (by decide) eX2_copy_145 ?_
                        refine V_bipush (v := 40) (by decide) eX2_copy_148 ?_
                        refine V_iload1 eX2_copy_150 ?_
                        refine V_imul eX2_copy_151 ?_
                        refine V_iadd eX2_copy_152 ?_
                        refine V_iload2 eX2_copy_153 ?_
                        refine V_iadd eX2_copy_154 ?_
                        refine V_iload6 eX2_copy_155 ?_
                        refine V_iadd eX2_copy_157 ?_
                        refine M_sl (n := (((208 + (40 * x)) + ii) + k)) mb (zadd (zadd (zadd rfl (zmul rfl rfl)) rfl) rfl) (by omega) rfl eX2_copy_158 ?_
                        refine M_as (j := 20) (n := k) mb rfl (by decide) rfl (by show _ < _; first | decide | (simp only [mlen]; omega)) eX2_copy_159 ?_
                        obtain ⟨R_2, hR_2⟩ : ∃ T, T = va_up q128 k (S (((208 + (40 * x)) + ii) + k)) := ⟨_, rfl⟩
                        rw [ms_extA (show va_up (va_up A 20 q128) 20 (va_up ((va_up A 20 q128) 20) k (S (((208 + (40 * x)) + ii) + k))) = (va_up A 20 R_2) from by
                            rw [hR_2]; funext q
                            by_cases e20 : q = 20
                            · subst e20; rfl
                            simp only [va_up, if_neg e20])]
                        refine V_iincN6 rfl eX2_copy_160 rfl ?_
                        refine V_goto eX2_copy_163 ?_
                        exact V.le (zle_c (zle_c (zle_c (zle_c (zle_c (zle_c (zle_c zle_0))))))) (ih128 hl128 R_2 (by rw [zfold_s (n := k), ← hq128]; simp only [K_copy_128, ← hR_2, hxc, hyc, hza, hzb, hnnc, hiic, hjjc])  )
                    · refine V_bipush (v := -12) (by decide) eX2_copy_122 ?_
                      have hE : ((-12 : Int32), S, (A 20)) = o_copy S A (nI x) (nI ii) (nI y) (nI jj) (nI nn) := by simp only [o_copy, hxc, hyc, hza, hzb, hnnc, hiic, hjjc, if_neg c4, if_neg c11, if_neg c27, if_neg c41, if_pos c67, if_neg c75, if_neg c79, if_neg c84, if_neg c101, if_neg c119]
                      exact V_ireturn eX2_copy_124 rfl (by rw [← hE]; exact ⟨rfl, rfl⟩)
          · refine V_bipush (v := -13) (by decide) eX2_copy_70 ?_
            have hE : ((-13 : Int32), S, (A 20)) = o_copy S A (nI x) i (nI y) j n := by simp only [o_copy, hxc, hyc, if_neg c4, if_neg c11, if_neg c27, if_neg c41, if_neg c67]
            exact V_ireturn eX2_copy_72 rfl (by rw [← hE]; exact ⟨rfl, rfl⟩)
        · refine V_bipush (v := -11) (by decide) eX2_copy_44 ?_
          have hE : ((-11 : Int32), S, (A 20)) = o_copy S A (nI x) i (nI y) j n := by simp only [o_copy, hxc, hyc, if_neg c4, if_neg c11, if_neg c27, if_pos c41]
          exact V_ireturn eX2_copy_46 rfl (by rw [← hE]; exact ⟨rfl, rfl⟩)
    · refine V_iconst (v := -1) (by decide) eX2_copy_14 ?_
      have hE : ((-1 : Int32), S, (A 20)) = o_copy S A (nI x) i ot j n := by simp only [o_copy, hxc, if_neg c4, if_pos c11]
      exact V_ireturn eX2_copy_15 rfl (by rw [← hE]; exact ⟨rfl, rfl⟩)

