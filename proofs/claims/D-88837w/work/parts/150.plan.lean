/-- a list of bills kept in an array -/
def Lbl (S : Nat → Int32) (np : Nat) (T : Nat → Int32) (k : Nat) : Prop := ∀ j, j < k → T j = nI (sn T j) ∧ sn T j < np ∧ S (370 + sn T j) = 3
theorem Lbl.push {S : Nat → Int32} {np : Nat} {T : Nat → Int32} {k p : Nat} (h : Lbl S np T k) (hp : p < np) (hn : np ≤ 60) (h3 : S (370 + p) = 3) : Lbl S np (va_up T k (nI p)) (k + 1) := by
  intro j hj
  unfold sn
  by_cases e : j = k
  · subst e
    rw [va_up_self, nI_clamp (by omega)]
    exact ⟨rfl, hp, h3⟩
  · rw [va_up_ne _ _ e]
    exact h j (by omega)

def K_plan_250 (S : Nat → Int32) (li : Nat) (zs : Nat) (q60 : Int32 × (Nat → Int32)) : Nat → Int32 → Int32 := fun j q250 =>
    if q250 = 0 then
      (0 : Int32)
    else
      if (((nI zs) >>> ((nI j) &&& 31)) &&& (1 : Int32)) = (1 : Int32) then
        let lj := sn q60.2 j
        if (bI (decide (S (1100 + 60 * lj + li) = 1))) = 0 then
          (1 : Int32)
        else
          (0 : Int32)
      else
        (1 : Int32)
def K_plan_179 (S : Nat → Int32) (zs : Nat) (q60 : Int32 × (Nat → Int32)) : Nat → Int32 × Int32 × Int32 → Int32 × Int32 × Int32 := fun i q179 =>
    if (((nI zs) >>> ((nI i) &&& 31)) &&& (1 : Int32)) = (1 : Int32) then
      let li := sn q60.2 i
      let q := sn S (430 + li)
      let q250 := zfold (K_plan_250 S li zs q60) i q179.2.2
      ((q179.1 + (zyards S q)), (q179.2.1 + (((2 : Int32) * (zyards S q)) + (zclaims S q))), q250)
    else
      (q179.1, q179.2.1, q179.2.2)
def K_plan_150 (S : Nat → Int32) (k : Nat) (towns : Int32) (yd : Int32) (co : Int32) (q60 : Int32 × (Nat → Int32)) : Nat → Int32 × Int32 → Int32 × Int32 := fun zs q150 =>
    let q179 := zfold (K_plan_179 S zs q60) k ((0 : Int32), (0 : Int32), (bI (zjoin S (sn q60.2) towns (nI zs) k)))
    if q150.1 = (-5 : Int32) then
      if q179.2.2 = 0 then
        (q150.1, q150.2)
      else
        if yd < q179.1 then
          (q150.1, q150.2)
        else
          if co < q179.2.1 then
            (q150.1, q150.2)
          else
            ((nI zs), q179.2.1)
    else
      if q179.2.1 < q150.2 then
        if q179.2.2 = 0 then
          (q150.1, q150.2)
        else
          if yd < q179.1 then
            (q150.1, q150.2)
          else
            if co < q179.2.1 then
              (q150.1, q150.2)
            else
              ((nI zs), q179.2.1)
      else
        if q179.2.1 = q150.2 then
          if (zmany q150.1) ≤ (zmany (nI zs)) then
            if q179.2.2 = 0 then
              (q150.1, q150.2)
            else
              if yd < q179.1 then
                (q150.1, q150.2)
              else
                if co < q179.2.1 then
                  (q150.1, q150.2)
                else
                  (q150.1, q150.2)
          else
            if q179.2.2 = 0 then
              (q150.1, q150.2)
            else
              if yd < q179.1 then
                (q150.1, q150.2)
              else
                if co < q179.2.1 then
                  (q150.1, q150.2)
                else
                  ((nI zs), q179.2.1)
        else
          if q179.2.2 = 0 then
            (q150.1, q150.2)
          else
            if yd < q179.1 then
              (q150.1, q150.2)
            else
              if co < q179.2.1 then
                (q150.1, q150.2)
              else
                (q150.1, q150.2)
def K_plan_60 (S : Nat → Int32) : Nat → Int32 × (Nat → Int32) → Int32 × (Nat → Int32) := fun p q60 =>
    let k := q60.1.toNatClampNeg
    if (8 : Int32) ≤ (nI k) then
      ((nI k), q60.2)
    else
      if (S (370 + p)) = (3 : Int32) then
        if (S (790 + p)) = 0 then
          if (zlet S p (S 0)) = 0 then
            ((nI k), q60.2)
          else
            let t1 := va_up q60.2 k (nI p)
            ((nI (k + 1)), t1)
        else
          ((nI k), q60.2)
      else
        ((nI k), q60.2)
def o_plan (S : Nat → Int32) (A : Nat → Nat → Int32) (np : Nat) (towns : Int32) (yd : Int32) (co : Int32) (what : Int32) : Int32 :=
  if (zin what (0 : Int32) (1 : Int32)) = 0 then
    (-1 : Int32)
  else
    if (zin towns (0 : Int32) (((1 : Int32) <<< ((S 1) &&& 31)) - (1 : Int32))) = 0 then
      (-2 : Int32)
    else
      if (zin yd (0 : Int32) (99999 : Int32)) = 0 then
        (-2 : Int32)
      else
        if (zin co (0 : Int32) (999999 : Int32)) = 0 then
          (-2 : Int32)
        else
          let q60 := zfold (K_plan_60 S) np ((0 : Int32), (A 19))
          let k := q60.1.toNatClampNeg
          let q150 := zfold (K_plan_150 S k towns yd co q60) (2 ^ k) ((-5 : Int32), (0 : Int32))
          if q150.1 = (-5 : Int32) then
            (-5 : Int32)
          else
            if what = 0 then
              q150.1
            else
              q150.2
theorem c_plan {w : Wd} {h : Hp} {m : Nat} {ad : Nat → Nat} {A : Nat → Nat → Int32} {B : Nat → Nat → Int64} {F S : Nat → Int32} (mb : MB h m ad) (towns : Int32) (yd : Int32) (co : Int32) (what : Int32) {np : Nat} (hnp : S 2 = nI np) (hnp60 : np ≤ 60) {no : Nat} (ho : Ior S no) (hcl : Icl S no) (hbl : Hbl S np) : Con w mX2_plan cX2_plan 24 0 0 [.ref m, .int towns, .int yd, .int co, .int what] (ms h A B F S) (Rm (o_plan S A np towns yd co what) h A F S) := by
  refine Con.of (by decide +kernel) rfl rfl ?_
  show V w mX2_plan cX2_plan 24 0 0 _ 0 [some (.ref m), some (.int towns), some (.int yd), some (.int co), some (.int what), none, none, none, none, none, none, none, none, none, none] [] _
  rw [ms_extA (show A = (va_up (va_up A 8 (A 8)) 19 (A 19)) from by
    funext q
    by_cases e8 : q = 8
    · subst e8; rfl
    by_cases e19 : q = 19
    · subst e19; rfl
    simp only [va_up, if_neg e8, if_neg e19])]
  rw [ms_extF (show F = (va_up (va_up (va_up (va_up F 4 (F 4)) 5 (F 5)) 6 (F 6)) 7 (F 7)) from by
    funext q
    by_cases e4 : q = 4
    · subst e4; rfl
    by_cases e5 : q = 5
    · subst e5; rfl
    by_cases e6 : q = 6
    · subst e6; rfl
    by_cases e7 : q = 7
    · subst e7; rfl
    simp only [va_up, if_neg e4, if_neg e5, if_neg e6, if_neg e7])]
  refine V_iload4 eX2_plan_0 ?_
  refine V_iconst (v := 0) (by decide) eX2_plan_2 ?_
  refine V_iconst (v := 1) (by decide) eX2_plan_3 ?_
  refine C0_static eX2_plan_4 lmX2_in q1966 q1967 (c_in _ _ _ _) rfl rfl rfl rfl ?_
  refine V_ifne eX2_plan_7 (fun c7 => ?_) (fun c7 => ?_)
  · refine V_iload1 eX2_plan_12 ?_
    refine V_iconst (v := 0) (by decide) eX2_plan_13 ?_
    refine V_iconst (v := 1) (by decide) eX2_plan_14 ?_
    refine V_aload0 eX2_plan_15 rfl ?_
    refine M_ga mb rfl eX2_plan_16 fl_X2_8_2 ?_
    refine V_iconst (v := 1) (by decide) eX2_plan_19 ?_
    refine M_sl (n := 1) mb rfl (by omega) rfl eX2_plan_20 ?_
    refine V_ishl eX2_plan_21 ?_
    refine V_iconst (v := 1) (by decide) eX2_plan_22 ?_
    refine V_isub eX2_plan_23 ?_
    refine C0_static eX2_plan_24 lmX2_in q1966 q1967 (c_in _ _ _ _) rfl rfl rfl rfl ?_
    refine V_ifeq eX2_plan_27 (fun c27 => ?_) (fun c27 => ?_)
    · refine V_bipush (v := -2) (by decide) eX2_plan_51 ?_
      have hE : (-2 : Int32) = o_plan S A np towns yd co what := by simp only [o_plan, if_neg c7, if_pos c27]
      exact V_ireturn eX2_plan_53 rfl (by rw [← hE]; exact ⟨rfl, _, _, _, (by rfl), (by rfl), rfl⟩)
    · refine V_iload2 eX2_plan_30 ?_
      refine V_iconst (v := 0) (by decide) eX2_plan_31 ?_
      refine V_ldc (v := 99999) eX2_plan_32 q1980 ?_
      refine C0_static eX2_plan_34 lmX2_in q1966 q1967 (c_in _ _ _ _) rfl rfl rfl rfl ?_
      refine V_ifeq eX2_plan_37 (fun c37 => ?_) (fun c37 => ?_)
      · refine V_bipush (v := -2) (by decide) eX2_plan_51 ?_
        have hE : (-2 : Int32) = o_plan S A np towns yd co what := by simp only [o_plan, if_neg c7, if_neg c27, if_pos c37]
        exact V_ireturn eX2_plan_53 rfl (by rw [← hE]; exact ⟨rfl, _, _, _, (by rfl), (by rfl), rfl⟩)
      · refine V_iload3 eX2_plan_40 ?_
        refine V_iconst (v := 0) (by decide) eX2_plan_41 ?_
        refine V_ldc_w (v := 999999) eX2_plan_42 q2380 ?_
        refine C0_static eX2_plan_45 lmX2_in q1966 q1967 (c_in _ _ _ _) rfl rfl rfl rfl ?_
        refine V_ifne eX2_plan_48 (fun c48 => ?_) (fun c48 => ?_)
        · refine V_iconst (v := 0) (by decide) eX2_plan_54 ?_
          refine V_istore5 rfl eX2_plan_55 rfl ?_
          refine V_iconst (v := 0) (by decide) eX2_plan_57 ?_
          refine V_istore6 rfl eX2_plan_58 rfl ?_
          refine V.le (zle_c (zle_c (zle_c (zle_c (zle_c (zle_c (zle_c (zle_n (zle_n (zle_n (zle_n (zle_n (zle_n (zle_n (zle_n zle_0))))))))))))))) (zloop (P := fun p => ∀ q60 : Int32 × (Nat → Int32), ∀ JA8_60 : (Nat → Int32), ∀ JF4_60 : Int32, ∀ JF5_60 : Int32, ∀ JF6_60 : Int32, ∀ JF7_60 : Int32, q60 = zfold (K_plan_60 S) p ((0 : Int32), (A 19)) → (∃ k, q60.1 = nI k ∧ k ≤ 8 ∧ Lbl S np q60.2 k) → V w mX2_plan cX2_plan 24 0 0 (ms h (va_up (va_up A 8 JA8_60) 19 q60.2) B (va_up (va_up (va_up (va_up F 4 JF4_60) 5 JF5_60) 6 JF6_60) 7 JF7_60) S) 60 [some (.ref m), some (.int towns), some (.int yd), some (.int co), some (.int what), some (.int q60.1), some (.int (nI p)), none, none, none, none, none, none, none, none] [] _) np (fun p hp ih60 q60 JA8_60 JF4_60 JF5_60 JF6_60 JF7_60 hq60 hk => ?_) 0 (Nat.zero_le _) ((0 : Int32), (A 19)) (A 8) (F 4) (F 5) (F 6) (F 7) rfl ⟨0, rfl, by omega, fun j q => absurd q (by omega)⟩)
          refine V_iload6 eX2_plan_60 ?_
          refine V_aload0 eX2_plan_62 rfl ?_
          refine M_ga mb rfl eX2_plan_63 fl_X2_8_2 ?_
          refine V_iconst (v := 2) (by decide) eX2_plan_66 ?_
          refine M_sl (n := 2) mb rfl (by omega) hnp eX2_plan_67 ?_
          refine V_if_icmpge eX2_plan_68 (fun c68 => ?_) (fun c68 => ?_)
          · have e60 : p = np := by have := nle c68 (by omega) (by omega); omega
            rw [e60] at hq60
            obtain ⟨k, hk1, hk2, hk3⟩ := id hk
            have hkc : q60.1.toNatClampNeg = k := by rw [hk1]; exact nI_clamp (by omega)
            rw [hk1]
            have hll : ∀ j, j < k → q60.2 j = nI (sn q60.2 j) ∧ sn q60.2 j < 60 := fun j hj => ⟨(hk3 j hj).1, by have := (hk3 j hj).2.1; omega⟩
            have hp10 := pow_10 (show k ≤ 10 by omega)
            refine V_bipush (v := -5) (by decide) eX2_plan_140 ?_
            refine V_istore6 rfl eX2_plan_142 rfl ?_
            refine V_iconst (v := 0) (by decide) eX2_plan_144 ?_
            refine V_istore7 rfl eX2_plan_145 rfl ?_
            refine V_iconst (v := 0) (by decide) eX2_plan_147 ?_
            refine V_istore8 rfl eX2_plan_148 rfl ?_
            refine V.le (zle_c (zle_c (zle_c (zle_c (zle_c (zle_c (zle_c (zle_c (zle_c (zle_n (zle_n (zle_n (zle_n (zle_n (zle_n zle_0))))))))))))))) (zloop (P := fun zs => ∀ q150 : Int32 × Int32, q150 = zfold (K_plan_150 S k towns yd co q60) zs ((-5 : Int32), (0 : Int32)) → V w mX2_plan cX2_plan 24 0 0 (ms h (va_up (va_up A 8 JA8_60) 19 q60.2) B (va_up (va_up (va_up (va_up F 4 JF4_60) 5 JF5_60) 6 JF6_60) 7 JF7_60) S) 150 [some (.ref m), some (.int towns), some (.int yd), some (.int co), some (.int what), some (.int (nI k)), some (.int q150.1), some (.int q150.2), some (.int (nI zs)), none, none, none, none, none, none] [] _) (2 ^ k) (fun zs hzs ih150 q150  hq150  => ?_) 0 (Nat.zero_le _) ((-5 : Int32), (0 : Int32))  rfl )
            refine V_iload8 eX2_plan_150 ?_
            refine V_iconst (v := 1) (by decide) eX2_plan_152 ?_
            refine V_iload5 eX2_plan_153 ?_
            refine V_ishl eX2_plan_155 ?_
            refine V_if_icmpge eX2_plan_156 (fun c156 => ?_) (fun c156 => ?_)
            · have e150 : zs = 2 ^ k := by rw [shl_pow k (by omega)] at c156; have := nle c156 (by omega) (by omega); omega
              rw [e150] at hq150
              refine V_iload6 eX2_plan_390 ?_
              refine V_bipush (v := -5) (by decide) eX2_plan_392 ?_
              refine V_if_icmpne eX2_plan_394 (fun c394 => ?_) (fun c394 => ?_)
              · refine V_iload4 eX2_plan_402 ?_
                refine V_ifne eX2_plan_404 (fun c404 => ?_) (fun c404 => ?_)
                · refine V_iload7 eX2_plan_412 ?_
                  have hE : q150.2 = o_plan S A np towns yd co what := by simp only [o_plan, ← hq60, ← hq150, hkc, if_neg c7, if_neg c27, if_neg c37, if_neg c48, if_neg c394, if_neg c404]
                  exact V_ireturn eX2_plan_414 rfl (by rw [← hE]; exact ⟨rfl, _, _, _, (by rfl), (by rfl), rfl⟩)
                · refine V_iload6 eX2_plan_407 ?_
                  refine V_goto eX2_plan_409 ?_
                  have hE : q150.1 = o_plan S A np towns yd co what := by simp only [o_plan, ← hq60, ← hq150, hkc, if_neg c7, if_neg c27, if_neg c37, if_neg c48, if_neg c394, if_pos c404]
                  exact V_ireturn eX2_plan_414 rfl (by rw [← hE]; exact ⟨rfl, _, _, _, (by rfl), (by rfl), rfl⟩)
              · refine V_bipush (v := -5) (by decide) eX2_plan_397 ?_
                refine V_goto eX2_plan_399 ?_
                have hE : (-5 : Int32) = o_plan S A np towns yd co what := by simp only [o_plan, ← hq60, ← hq150, hkc, if_neg c7, if_neg c27, if_neg c37, if_neg c48, if_pos c394]
                exact V_ireturn eX2_plan_414 rfl (by rw [← hE]; exact ⟨rfl, _, _, _, (by rfl), (by rfl), rfl⟩)
            · have hl150 : zs < 2 ^ k := by rw [shl_pow k (by omega)] at c156; have := nnle c156 (by omega) (by omega); omega
              refine V_iconst (v := 0) (by decide) eX2_plan_159 ?_
              refine V_istore9 rfl eX2_plan_160 rfl ?_
              refine V_iconst (v := 0) (by decide) eX2_plan_162 ?_
              refine V_istore10 rfl eX2_plan_163 rfl ?_
              refine V_aload0 eX2_plan_165 rfl ?_
              refine V_iload1 eX2_plan_166 ?_
              refine V_iload8 eX2_plan_167 ?_
              refine V_iload5 eX2_plan_169 ?_
              refine M_call mb eX2_plan_171 lmX2_areJoined q2369 q2371 rfl qs96 (c_areJoined mb _ _ (n := k) (sn q60.2) (by omega) hll) rfl rfl rfl rfl ?_
              refine V_istore11 rfl eX2_plan_174 rfl ?_
              refine V_iconst (v := 0) (by decide) eX2_plan_176 ?_
              refine V_istore12 rfl eX2_plan_177 rfl ?_
              refine V.le (zle_c (zle_c (zle_c (zle_c (zle_c (zle_c (zle_c (zle_c (zle_c (zle_c (zle_c (zle_c (zle_c (zle_n (zle_n zle_0))))))))))))))) (zloop (P := fun i => ∀ q179 : Int32 × Int32 × Int32, q179 = zfold (K_plan_179 S zs q60) i ((0 : Int32), (0 : Int32), (bI (zjoin S (sn q60.2) towns (nI zs) k))) → V w mX2_plan cX2_plan 24 0 0 (ms h (va_up (va_up A 8 JA8_60) 19 q60.2) B (va_up (va_up (va_up (va_up F 4 JF4_60) 5 JF5_60) 6 JF6_60) 7 JF7_60) S) 179 [some (.ref m), some (.int towns), some (.int yd), some (.int co), some (.int what), some (.int (nI k)), some (.int q150.1), some (.int q150.2), some (.int (nI zs)), some (.int q179.1), some (.int q179.2.1), some (.int q179.2.2), some (.int (nI i)), none, none] [] _) k (fun i hi ih179 q179  hq179  => ?_) 0 (Nat.zero_le _) ((0 : Int32), (0 : Int32), (bI (zjoin S (sn q60.2) towns (nI zs) k)))  rfl )
              refine V_iload12 eX2_plan_179 ?_
              refine V_iload5 eX2_plan_181 ?_
              refine V_if_icmpge eX2_plan_183 (fun c183 => ?_) (fun c183 => ?_)
              · have e179 : i = k := by have := nle c183 (by omega) (by omega); omega
                rw [e179] at hq179
                refine V_iload6 eX2_plan_313 ?_
                refine V_bipush (v := -5) (by decide) eX2_plan_315 ?_
                refine V_if_icmpeq eX2_plan_317 (fun c317 => ?_) (fun c317 => ?_)
                · refine V_iconst (v := 1) (by decide) eX2_plan_347 ?_
                  refine V_goto eX2_plan_348 ?_
                  refine V_istore12 rfl eX2_plan_352 rfl ?_
                  refine V_iload11 eX2_plan_354 ?_
                  refine V_ifeq eX2_plan_356 (fun c356 => ?_) (fun c356 => ?_)
                  · refine V_iincN8 rfl eX2_plan_384 rfl ?_
                    refine V_goto eX2_plan_387 ?_
                    exact V.le (zle_c (zle_c (zle_c (zle_c (zle_c (zle_c (zle_c (zle_c (zle_c (zle_n (zle_n (zle_n (zle_n (zle_n (zle_n zle_0))))))))))))))) (ih150 hl150 (q150.1, q150.2)  (by rw [zfold_s (n := zs), ← hq150]; simp only [K_plan_150, ← hq179, hkc, if_pos c317, if_pos c356])  )
                  · refine V_iload9 eX2_plan_359 ?_
                    refine V_iload2 eX2_plan_361 ?_
                    refine V_if_icmpgt eX2_plan_362 (fun c362 => ?_) (fun c362 => ?_)
                    · refine V_iincN8 rfl eX2_plan_384 rfl ?_
                      refine V_goto eX2_plan_387 ?_
                      exact V.le (zle_c (zle_c (zle_c (zle_c (zle_c (zle_c (zle_c (zle_c (zle_c (zle_n (zle_n (zle_n (zle_n (zle_n (zle_n zle_0))))))))))))))) (ih150 hl150 (q150.1, q150.2)  (by rw [zfold_s (n := zs), ← hq150]; simp only [K_plan_150, ← hq179, hkc, if_pos c317, if_neg c356, if_pos c362])  )
                    · refine V_iload10 eX2_plan_365 ?_
                      refine V_iload3 eX2_plan_367 ?_
                      refine V_if_icmpgt eX2_plan_368 (fun c368 => ?_) (fun c368 => ?_)
                      · refine V_iincN8 rfl eX2_plan_384 rfl ?_
                        refine V_goto eX2_plan_387 ?_
                        exact V.le (zle_c (zle_c (zle_c (zle_c (zle_c (zle_c (zle_c (zle_c (zle_c (zle_n (zle_n (zle_n (zle_n (zle_n (zle_n zle_0))))))))))))))) (ih150 hl150 (q150.1, q150.2)  (by rw [zfold_s (n := zs), ← hq150]; simp only [K_plan_150, ← hq179, hkc, if_pos c317, if_neg c356, if_neg c362, if_pos c368])  )
                      · refine V_iload12 eX2_plan_371 ?_
                        refine V_ifeq eX2_plan_373 (fun c373 => absurd c373 (by decide)) (fun c373 => ?_)
                        refine V_iload8 eX2_plan_376 ?_
                        refine V_istore6 rfl eX2_plan_378 rfl ?_
                        refine V_iload10 eX2_plan_380 ?_
                        refine V_istore7 rfl eX2_plan_382 rfl ?_
                        refine V_iincN8 rfl eX2_plan_384 rfl ?_
                        refine V_goto eX2_plan_387 ?_
                        exact V.le (zle_c (zle_c (zle_c (zle_c (zle_c (zle_c (zle_c (zle_c (zle_c (zle_n (zle_n (zle_n (zle_n (zle_n (zle_n zle_0))))))))))))))) (ih150 hl150 ((nI zs), q179.2.1)  (by rw [zfold_s (n := zs), ← hq150]; simp only [K_plan_150, ← hq179, hkc, if_pos c317, if_neg c356, if_neg c362, if_neg c368])  )
                · refine V_iload10 eX2_plan_320 ?_
                  refine V_iload7 eX2_plan_322 ?_
                  refine V_if_icmplt eX2_plan_324 (fun c324 => ?_) (fun c324 => ?_)
                  · refine V_iconst (v := 1) (by decide) eX2_plan_347 ?_
                    refine V_goto eX2_plan_348 ?_
                    refine V_istore12 rfl eX2_plan_352 rfl ?_
                    refine V_iload11 eX2_plan_354 ?_
                    refine V_ifeq eX2_plan_356 (fun c356 => ?_) (fun c356 => ?_)
                    · refine V_iincN8 rfl eX2_plan_384 rfl ?_
                      refine V_goto eX2_plan_387 ?_
                      exact V.le (zle_c (zle_c (zle_c (zle_c (zle_c (zle_c (zle_c (zle_c (zle_c (zle_n (zle_n (zle_n (zle_n (zle_n (zle_n zle_0))))))))))))))) (ih150 hl150 (q150.1, q150.2)  (by rw [zfold_s (n := zs), ← hq150]; simp only [K_plan_150, ← hq179, hkc, if_neg c317, if_pos c324, if_pos c356])  )
                    · refine V_iload9 eX2_plan_359 ?_
                      refine V_iload2 eX2_plan_361 ?_
                      refine V_if_icmpgt eX2_plan_362 (fun c362 => ?_) (fun c362 => ?_)
                      · refine V_iincN8 rfl eX2_plan_384 rfl ?_
                        refine V_goto eX2_plan_387 ?_
                        exact V.le (zle_c (zle_c (zle_c (zle_c (zle_c (zle_c (zle_c (zle_c (zle_c (zle_n (zle_n (zle_n (zle_n (zle_n (zle_n zle_0))))))))))))))) (ih150 hl150 (q150.1, q150.2)  (by rw [zfold_s (n := zs), ← hq150]; simp only [K_plan_150, ← hq179, hkc, if_neg c317, if_pos c324, if_neg c356, if_pos c362])  )
                      · refine V_iload10 eX2_plan_365 ?_
                        refine V_iload3 eX2_plan_367 ?_
                        refine V_if_icmpgt eX2_plan_368 (fun c368 => ?_) (fun c368 => ?_)
                        · refine V_iincN8 rfl eX2_plan_384 rfl ?_
                          refine V_goto eX2_plan_387 ?_
                          exact V.le (zle_c (zle_c (zle_c (zle_c (zle_c (zle_c (zle_c (zle_c (zle_c (zle_n (zle_n (zle_n (zle_n (zle_n (zle_n zle_0))))))))))))))) (ih150 hl150 (q150.1, q150.2)  (by rw [zfold_s (n := zs), ← hq150]; simp only [K_plan_150, ← hq179, hkc, if_neg c317, if_pos c324, if_neg c356, if_neg c362, if_pos c368])  )
                        · refine V_iload12 eX2_plan_371 ?_
                          refine V_ifeq eX2_plan_373 (fun c373 => absurd c373 (by decide)) (fun c373 => ?_)
                          refine V_iload8 eX2_plan_376 ?_
                          refine V_istore6 rfl eX2_plan_378 rfl ?_
                          refine V_iload10 eX2_plan_380 ?_
                          refine V_istore7 rfl eX2_plan_382 rfl ?_
                          refine V_iincN8 rfl eX2_plan_384 rfl ?_
                          refine V_goto eX2_plan_387 ?_
                          exact V.le (zle_c (zle_c (zle_c (zle_c (zle_c (zle_c (zle_c (zle_c (zle_c (zle_n (zle_n (zle_n (zle_n (zle_n (zle_n zle_0))))))))))))))) (ih150 hl150 ((nI zs), q179.2.1)  (by rw [zfold_s (n := zs), ← hq150]; simp only [K_plan_150, ← hq179, hkc, if_neg c317, if_pos c324, if_neg c356, if_neg c362, if_neg c368])  )
                  · refine V_iload10 eX2_plan_327 ?_
                    refine V_iload7 eX2_plan_329 ?_
                    refine V_if_icmpne eX2_plan_331 (fun c331 => ?_) (fun c331 => ?_)
                    · refine V_iconst (v := 0) (by decide) eX2_plan_351 ?_
                      refine V_istore12 rfl eX2_plan_352 rfl ?_
                      refine V_iload11 eX2_plan_354 ?_
                      refine V_ifeq eX2_plan_356 (fun c356 => ?_) (fun c356 => ?_)
                      · refine V_iincN8 rfl eX2_plan_384 rfl ?_
                        refine V_goto eX2_plan_387 ?_
                        exact V.le (zle_c (zle_c (zle_c (zle_c (zle_c (zle_c (zle_c (zle_c (zle_c (zle_n (zle_n (zle_n (zle_n (zle_n (zle_n zle_0))))))))))))))) (ih150 hl150 (q150.1, q150.2)  (by rw [zfold_s (n := zs), ← hq150]; simp only [K_plan_150, ← hq179, hkc, if_neg c317, if_neg c324, if_neg c331, if_pos c356])  )
                      · refine V_iload9 eX2_plan_359 ?_
                        refine V_iload2 eX2_plan_361 ?_
                        refine V_if_icmpgt eX2_plan_362 (fun c362 => ?_) (fun c362 => ?_)
                        · refine V_iincN8 rfl eX2_plan_384 rfl ?_
                          refine V_goto eX2_plan_387 ?_
                          exact V.le (zle_c (zle_c (zle_c (zle_c (zle_c (zle_c (zle_c (zle_c (zle_c (zle_n (zle_n (zle_n (zle_n (zle_n (zle_n zle_0))))))))))))))) (ih150 hl150 (q150.1, q150.2)  (by rw [zfold_s (n := zs), ← hq150]; simp only [K_plan_150, ← hq179, hkc, if_neg c317, if_neg c324, if_neg c331, if_neg c356, if_pos c362])  )
                        · refine V_iload10 eX2_plan_365 ?_
                          refine V_iload3 eX2_plan_367 ?_
                          refine V_if_icmpgt eX2_plan_368 (fun c368 => ?_) (fun c368 => ?_)
                          · refine V_iincN8 rfl eX2_plan_384 rfl ?_
                            refine V_goto eX2_plan_387 ?_
                            exact V.le (zle_c (zle_c (zle_c (zle_c (zle_c (zle_c (zle_c (zle_c (zle_c (zle_n (zle_n (zle_n (zle_n (zle_n (zle_n zle_0))))))))))))))) (ih150 hl150 (q150.1, q150.2)  (by rw [zfold_s (n := zs), ← hq150]; simp only [K_plan_150, ← hq179, hkc, if_neg c317, if_neg c324, if_neg c331, if_neg c356, if_neg c362, if_pos c368])  )
                          · refine V_iload12 eX2_plan_371 ?_
                            refine V_ifeq eX2_plan_373 (fun c373 => ?_) (fun c373 => absurd c373 (by decide))
                            refine V_iincN8 rfl eX2_plan_384 rfl ?_
                            refine V_goto eX2_plan_387 ?_
                            exact V.le (zle_c (zle_c (zle_c (zle_c (zle_c (zle_c (zle_c (zle_c (zle_c (zle_n (zle_n (zle_n (zle_n (zle_n (zle_n zle_0))))))))))))))) (ih150 hl150 (q150.1, q150.2)  (by rw [zfold_s (n := zs), ← hq150]; simp only [K_plan_150, ← hq179, hkc, if_neg c317, if_neg c324, if_neg c331, if_neg c356, if_neg c362, if_neg c368])  )
                    · refine V_iload8 eX2_plan_334 ?_
                      refine C0_static eX2_plan_336 lmX2_many q2373 q2374 (c_many _ _) rfl rfl rfl rfl ?_
                      refine V_iload6 eX2_plan_339 ?_
                      refine C0_static eX2_plan_341 lmX2_many q2373 q2374 (c_many _ _) rfl rfl rfl rfl ?_
                      refine V_if_icmpge eX2_plan_344 (fun c344 => ?_) (fun c344 => ?_)
                      · refine V_iconst (v := 0) (by decide) eX2_plan_351 ?_
                        refine V_istore12 rfl eX2_plan_352 rfl ?_
                        refine V_iload11 eX2_plan_354 ?_
                        refine V_ifeq eX2_plan_356 (fun c356 => ?_) (fun c356 => ?_)
                        · refine V_iincN8 rfl eX2_plan_384 rfl ?_
                          refine V_goto eX2_plan_387 ?_
                          exact V.le (zle_c (zle_c (zle_c (zle_c (zle_c (zle_c (zle_c (zle_c (zle_c (zle_n (zle_n (zle_n (zle_n (zle_n (zle_n zle_0))))))))))))))) (ih150 hl150 (q150.1, q150.2)  (by rw [zfold_s (n := zs), ← hq150]; simp only [K_plan_150, ← hq179, hkc, if_neg c317, if_neg c324, if_pos c331, if_pos c344, if_pos c356])  )
                        · refine V_iload9 eX2_plan_359 ?_
                          refine V_iload2 eX2_plan_361 ?_
                          refine V_if_icmpgt eX2_plan_362 (fun c362 => ?_) (fun c362 => ?_)
                          · refine V_iincN8 rfl eX2_plan_384 rfl ?_
                            refine V_goto eX2_plan_387 ?_
                            exact V.le (zle_c (zle_c (zle_c (zle_c (zle_c (zle_c (zle_c (zle_c (zle_c (zle_n (zle_n (zle_n (zle_n (zle_n (zle_n zle_0))))))))))))))) (ih150 hl150 (q150.1, q150.2)  (by rw [zfold_s (n := zs), ← hq150]; simp only [K_plan_150, ← hq179, hkc, if_neg c317, if_neg c324, if_pos c331, if_pos c344, if_neg c356, if_pos c362])  )
                          · refine V_iload10 eX2_plan_365 ?_
                            refine V_iload3 eX2_plan_367 ?_
                            refine V_if_icmpgt eX2_plan_368 (fun c368 => ?_) (fun c368 => ?_)
                            · refine V_iincN8 rfl eX2_plan_384 rfl ?_
                              refine V_goto eX2_plan_387 ?_
                              exact V.le (zle_c (zle_c (zle_c (zle_c (zle_c (zle_c (zle_c (zle_c (zle_c (zle_n (zle_n (zle_n (zle_n (zle_n (zle_n zle_0))))))))))))))) (ih150 hl150 (q150.1, q150.2)  (by rw [zfold_s (n := zs), ← hq150]; simp only [K_plan_150, ← hq179, hkc, if_neg c317, if_neg c324, if_pos c331, if_pos c344, if_neg c356, if_neg c362, if_pos c368])  )
                            · refine V_iload12 eX2_plan_371 ?_
                              refine V_ifeq eX2_plan_373 (fun c373 => ?_) (fun c373 => absurd c373 (by decide))
                              refine V_iincN8 rfl eX2_plan_384 rfl ?_
                              refine V_goto eX2_plan_387 ?_
                              exact V.le (zle_c (zle_c (zle_c (zle_c (zle_c (zle_c (zle_c (zle_c (zle_c (zle_n (zle_n (zle_n (zle_n (zle_n (zle_n zle_0))))))))))))))) (ih150 hl150 (q150.1, q150.2)  (by rw [zfold_s (n := zs), ← hq150]; simp only [K_plan_150, ← hq179, hkc, if_neg c317, if_neg c324, if_pos c331, if_pos c344, if_neg c356, if_neg c362, if_neg c368])  )
                      · refine V_iconst (v := 1) (by decide) eX2_plan_347 ?_
                        refine V_goto eX2_plan_348 ?_
                        refine V_istore12 rfl eX2_plan_352 rfl ?_
                        refine V_iload11 eX2_plan_354 ?_
                        refine V_ifeq eX2_plan_356 (fun c356 => ?_) (fun c356 => ?_)
                        · refine V_iincN8 rfl eX2_plan_384 rfl ?_
                          refine V_goto eX2_plan_387 ?_
                          exact V.le (zle_c (zle_c (zle_c (zle_c (zle_c (zle_c (zle_c (zle_c (zle_c (zle_n (zle_n (zle_n (zle_n (zle_n (zle_n zle_0))))))))))))))) (ih150 hl150 (q150.1, q150.2)  (by rw [zfold_s (n := zs), ← hq150]; simp only [K_plan_150, ← hq179, hkc, if_neg c317, if_neg c324, if_pos c331, if_neg c344, if_pos c356])  )
                        · refine V_iload9 eX2_plan_359 ?_
                          refine V_iload2 eX2_plan_361 ?_
                          refine V_if_icmpgt eX2_plan_362 (fun c362 => ?_) (fun c362 => ?_)
                          · refine V_iincN8 rfl eX2_plan_384 rfl ?_
                            refine V_goto eX2_plan_387 ?_
                            exact V.le (zle_c (zle_c (zle_c (zle_c (zle_c (zle_c (zle_c (zle_c (zle_c (zle_n (zle_n (zle_n (zle_n (zle_n (zle_n zle_0))))))))))))))) (ih150 hl150 (q150.1, q150.2)  (by rw [zfold_s (n := zs), ← hq150]; simp only [K_plan_150, ← hq179, hkc, if_neg c317, if_neg c324, if_pos c331, if_neg c344, if_neg c356, if_pos c362])  )
                          · refine V_iload10 eX2_plan_365 ?_
                            refine V_iload3 eX2_plan_367 ?_
                            refine V_if_icmpgt eX2_plan_368 (fun c368 => ?_) (fun c368 => ?_)
                            · refine V_iincN8 rfl eX2_plan_384 rfl ?_
                              refine V_goto eX2_plan_387 ?_
                              exact V.le (zle_c (zle_c (zle_c (zle_c (zle_c (zle_c (zle_c (zle_c (zle_c (zle_n (zle_n (zle_n (zle_n (zle_n (zle_n zle_0))))))))))))))) (ih150 hl150 (q150.1, q150.2)  (by rw [zfold_s (n := zs), ← hq150]; simp only [K_plan_150, ← hq179, hkc, if_neg c317, if_neg c324, if_pos c331, if_neg c344, if_neg c356, if_neg c362, if_pos c368])  )
                            · refine V_iload12 eX2_plan_371 ?_
                              refine V_ifeq eX2_plan_373 (fun c373 => absurd c373 (by decide)) (fun c373 => ?_)
                              refine V_iload8 eX2_plan_376 ?_
                              refine V_istore6 rfl eX2_plan_378 rfl ?_
                              refine V_iload10 eX2_plan_380 ?_
                              refine V_istore7 rfl eX2_plan_382 rfl ?_
                              refine V_iincN8 rfl eX2_plan_384 rfl ?_
                              refine V_goto eX2_plan_387 ?_
                              exact V.le (zle_c (zle_c (zle_c (zle_c (zle_c (zle_c (zle_c (zle_c (zle_c (zle_n (zle_n (zle_n (zle_n (zle_n (zle_n zle_0))))))))))))))) (ih150 hl150 ((nI zs), q179.2.1)  (by rw [zfold_s (n := zs), ← hq150]; simp only [K_plan_150, ← hq179, hkc, if_neg c317, if_neg c324, if_pos c331, if_neg c344, if_neg c356, if_neg c362, if_neg c368])  )
              · have hl179 : i < k := by have := nnle c183 (by omega) (by omega); omega
                refine V_iload8 eX2_plan_186 ?_
                refine V_iload12 eX2_plan_188 ?_
                refine V_ishr eX2_plan_190 ?_
                refine V_iconst (v := 1) (by decide) eX2_plan_191 ?_
                refine V_iand eX2_plan_192 ?_
                refine V_iconst (v := 1) (by decide) eX2_plan_193 ?_
                refine V_if_icmpne eX2_plan_194 (fun c194 => ?_) (fun c194 => ?_)
                · refine V_iincN12 rfl eX2_plan_307 rfl ?_
                  refine V_goto eX2_plan_310 ?_
                  exact V.le (zle_c (zle_c (zle_c (zle_c (zle_c (zle_c (zle_c (zle_c (zle_c (zle_c (zle_c (zle_c (zle_c (zle_n (zle_n zle_0))))))))))))))) (ih179 hl179 (q179.1, q179.2.1, q179.2.2)  (by rw [zfold_s (n := i), ← hq179]; simp only [K_plan_179, hkc, if_neg c194])  )
                · obtain ⟨li, hli⟩ : ∃ x, sn q60.2 i = x := ⟨_, rfl⟩
                  have hTi : q60.2 i = nI li := by rw [← hli]; exact (hll i hl179).1
                  obtain ⟨hi1, hi2⟩ := (hk3 i hl179).2
                  rw [hli] at hi1 hi2
                  obtain ⟨q, wl, ta, tb, hof, hq, hw, hta, hta6, htb, htb6⟩ := hbl li hi1 hi2
                  have hc_q : sn S (430 + li) = q := sn_of hof (by omega)
                  refine V_aload0 eX2_plan_197 rfl ?_
                  refine V_aload0 eX2_plan_198 rfl ?_
                  refine M_ga mb rfl eX2_plan_199 fl_X2_8_2 ?_
                  refine V_sipush (v := 430) (by decide) eX2_plan_202 ?_
                  refine V_aload0 eX2_plan_205 rfl ?_
                  refine M_ga mb rfl eX2_plan_206 fl_X2_48_2 ?_
                  refine V_iload12 eX2_plan_209 ?_
                  refine M_al (j := 19) (n := i) mb rfl (by decide) rfl (by show _ < _; first | decide | (simp only [mlen]; omega)) hTi eX2_plan_211 ?_
                  refine V_iadd eX2_plan_212 ?_
                  refine M_sl (n := (430 + li)) mb (zadd rfl rfl) (by omega) hof eX2_plan_213 ?_
                  refine M_call mb eX2_plan_214 lmX2_yardsOf q2151 q2153 rfl qs72 (c_yardsOf mb (p := q) (wl := wl) hq hw) rfl rfl rfl rfl ?_
                  refine V_istore13 rfl eX2_plan_217 rfl ?_
                  refine V_iload9 eX2_plan_219 ?_
                  refine V_iload13 eX2_plan_221 ?_
                  refine V_iadd eX2_plan_223 ?_
                  refine V_istore9 rfl eX2_plan_224 rfl ?_
                  refine V_iload10 eX2_plan_226 ?_
                  refine V_iconst (v := 2) (by decide) eX2_plan_228 ?_
                  refine V_iload13 eX2_plan_229 ?_
                  refine V_imul eX2_plan_231 ?_
                  refine V_aload0 eX2_plan_232 rfl ?_
                  refine V_aload0 eX2_plan_233 rfl ?_
                  refine M_ga mb rfl eX2_plan_234 fl_X2_48_2 ?_
                  refine V_iload12 eX2_plan_237 ?_
                  refine M_al (j := 19) (n := i) mb rfl (by decide) rfl (by show _ < _; first | decide | (simp only [mlen]; omega)) hTi eX2_plan_239 ?_
                  refine M_call mb eX2_plan_240 lmX2_claims q2214 q2216 rfl qs80 (c_claims mb (b := li) (q := q) (wl := wl) (by omega) hof hq hw.1 hw.2.1 hnp hnp60) rfl rfl rfl rfl ?_
                  refine V_iadd eX2_plan_243 ?_
                  refine V_iadd eX2_plan_244 ?_
                  refine V_istore10 rfl eX2_plan_245 rfl ?_
                  refine V_iconst (v := 0) (by decide) eX2_plan_247 ?_
                  refine V_istore14 rfl eX2_plan_248 rfl ?_
                  refine V.le (zle_c (zle_c (zle_c (zle_c (zle_c (zle_c (zle_c (zle_c (zle_c (zle_c (zle_c (zle_c (zle_c (zle_n (zle_c zle_0))))))))))))))) (zloop (P := fun j => ∀ q250 : Int32, q250 = zfold (K_plan_250 S li zs q60) j q179.2.2 → V w mX2_plan cX2_plan 24 0 0 (ms h (va_up (va_up A 8 JA8_60) 19 q60.2) B (va_up (va_up (va_up (va_up F 4 JF4_60) 5 JF5_60) 6 JF6_60) 7 JF7_60) S) 250 [some (.ref m), some (.int towns), some (.int yd), some (.int co), some (.int what), some (.int (nI k)), some (.int q150.1), some (.int q150.2), some (.int (nI zs)), some (.int (q179.1 + (zyards S q))), some (.int (q179.2.1 + (((2 : Int32) * (zyards S q)) + (zclaims S q)))), some (.int q250), some (.int (nI i)), none, some (.int (nI j))] [] _) i (fun j hj ih250 q250  hq250  => ?_) 0 (Nat.zero_le _) q179.2.2  rfl )
                  refine V_iload14 eX2_plan_250 ?_
                  refine V_iload12 eX2_plan_252 ?_
                  refine V_if_icmpge eX2_plan_254 (fun c254 => ?_) (fun c254 => ?_)
                  · have e250 : j = i := by have := nle c254 (by omega) (by omega); omega
                    rw [e250] at hq250
                    refine V_iincN12 rfl eX2_plan_307 rfl ?_
                    refine V_goto eX2_plan_310 ?_
                    exact V.le (zle_c (zle_c (zle_c (zle_c (zle_c (zle_c (zle_c (zle_c (zle_c (zle_c (zle_c (zle_c (zle_c (zle_n (zle_n zle_0))))))))))))))) (ih179 hl179 ((q179.1 + (zyards S q)), (q179.2.1 + (((2 : Int32) * (zyards S q)) + (zclaims S q))), q250)  (by rw [zfold_s (n := i), ← hq179]; simp only [K_plan_179, ← hq250, hkc, hli, hc_q, if_pos c194])  )
                  · have hl250 : j < i := by have := nnle c254 (by omega) (by omega); omega
                    refine V_iload11 eX2_plan_257 ?_
                    refine V_ifeq eX2_plan_259 (fun c259 => ?_) (fun c259 => ?_)
                    · refine V_iconst (v := 0) (by decide) eX2_plan_298 ?_
                      refine V_istore11 rfl eX2_plan_299 rfl ?_
                      refine V_iincN14 rfl eX2_plan_301 rfl ?_
                      refine V_goto eX2_plan_304 ?_
                      exact V.le (zle_c (zle_c (zle_c (zle_c (zle_c (zle_c (zle_c (zle_c (zle_c (zle_c (zle_c (zle_c (zle_c (zle_n (zle_c zle_0))))))))))))))) (ih250 hl250 (0 : Int32)  (by rw [zfold_s (n := j), ← hq250]; simp only [K_plan_250, hkc, hli, hc_q, if_pos c259])  )
                    · refine V_iload8 eX2_plan_262 ?_
                      refine V_iload14 eX2_plan_264 ?_
                      refine V_ishr eX2_plan_266 ?_
                      refine V_iconst (v := 1) (by decide) eX2_plan_267 ?_
                      refine V_iand eX2_plan_268 ?_
                      refine V_iconst (v := 1) (by decide) eX2_plan_269 ?_
                      refine V_if_icmpne eX2_plan_270 (fun c270 => ?_) (fun c270 => ?_)
                      · refine V_iconst (v := 1) (by decide) eX2_plan_294 ?_
                        refine V_goto eX2_plan_295 ?_
                        refine V_istore11 rfl eX2_plan_299 rfl ?_
                        refine V_iincN14 rfl eX2_plan_301 rfl ?_
                        refine V_goto eX2_plan_304 ?_
                        exact V.le (zle_c (zle_c (zle_c (zle_c (zle_c (zle_c (zle_c (zle_c (zle_c (zle_c (zle_c (zle_c (zle_c (zle_n (zle_c zle_0))))))))))))))) (ih250 hl250 (1 : Int32)  (by rw [zfold_s (n := j), ← hq250]; simp only [K_plan_250, hkc, hli, hc_q, if_neg c259, if_neg c270])  )
                      · obtain ⟨lj, hlj⟩ : ∃ x, sn q60.2 j = x := ⟨_, rfl⟩
                        have hTj : q60.2 j = nI lj := by rw [← hlj]; exact (hll j (by omega)).1
                        have hj60 : lj < 60 := by rw [← hlj]; exact (hll j (by omega)).2
                        refine V_aload0 eX2_plan_273 rfl ?_
                        refine V_aload0 eX2_plan_274 rfl ?_
                        refine M_ga mb rfl eX2_plan_275 fl_X2_48_2 ?_
                        refine V_iload14 eX2_plan_278 ?_
                        refine M_al (j := 19) (n := j) mb rfl (by decide) rfl (by show _ < _; first | decide | (simp only [mlen]; omega)) hTj eX2_plan_280 ?_
                        refine V_aload0 eX2_plan_281 rfl ?_
                        refine M_ga mb rfl eX2_plan_282 fl_X2_48_2 ?_
                        refine V_iload12 eX2_plan_285 ?_
                        refine M_al (j := 19) (n := i) mb rfl (by decide) rfl (by show _ < _; first | decide | (simp only [mlen]; omega)) hTi eX2_plan_287 ?_
                        refine M_call mb eX2_plan_288 lmX2_isBarred q2222 q2224 rfl qs81 (c_isBarred mb (a := lj) (b := li) (by omega) (by omega)) rfl rfl rfl rfl ?_
                        refine V_ifne eX2_plan_291 (fun c291 => ?_) (fun c291 => ?_)
                        · refine V_iconst (v := 0) (by decide) eX2_plan_298 ?_
                          refine V_istore11 rfl eX2_plan_299 rfl ?_
                          refine V_iincN14 rfl eX2_plan_301 rfl ?_
                          refine V_goto eX2_plan_304 ?_
                          exact V.le (zle_c (zle_c (zle_c (zle_c (zle_c (zle_c (zle_c (zle_c (zle_c (zle_c (zle_c (zle_c (zle_c (zle_n (zle_c zle_0))))))))))))))) (ih250 hl250 (0 : Int32)  (by rw [zfold_s (n := j), ← hq250]; simp only [K_plan_250, hkc, hli, hc_q, hlj, if_neg c259, if_pos c270, if_neg c291])  )
                        · refine V_iconst (v := 1) (by decide) eX2_plan_294 ?_
                          refine V_goto eX2_plan_295 ?_
                          refine V_istore11 rfl eX2_plan_299 rfl ?_
                          refine V_iincN14 rfl eX2_plan_301 rfl ?_
                          refine V_goto eX2_plan_304 ?_
                          exact V.le (zle_c (zle_c (zle_c (zle_c (zle_c (zle_c (zle_c (zle_c (zle_c (zle_c (zle_c (zle_c (zle_c (zle_n (zle_c zle_0))))))))))))))) (ih250 hl250 (1 : Int32)  (by rw [zfold_s (n := j), ← hq250]; simp only [K_plan_250, hkc, hli, hc_q, hlj, if_neg c259, if_pos c270, if_pos c291])  )
          · have hl60 : p < np := by have := nnle c68 (by omega) (by omega); omega
            obtain ⟨k, hk1, hk2, hk3⟩ := id hk
            have hkc : q60.1.toNatClampNeg = k := by rw [hk1]; exact nI_clamp (by omega)
            rw [hk1]
            refine V_iload5 eX2_plan_71 ?_
            refine V_bipush (v := 8) (by decide) eX2_plan_73 ?_
            refine V_if_icmpge eX2_plan_75 (fun c75 => ?_) (fun c75 => ?_)
            · refine V_iincN6 rfl eX2_plan_134 rfl ?_
              refine V_goto eX2_plan_137 ?_
              exact V.le (zle_c (zle_c (zle_c (zle_c (zle_c (zle_c (zle_c (zle_n (zle_n (zle_n (zle_n (zle_n (zle_n (zle_n (zle_n zle_0))))))))))))))) (ih60 hl60 ((nI k), q60.2) JA8_60 JF4_60 JF5_60 JF6_60 JF7_60 (by rw [zfold_s (n := p), ← hq60]; simp only [K_plan_60, hkc, if_pos c75])  ⟨k, rfl, hk2, hk3⟩)
            · have hk7 : k < 8 := nnle (a := 8) c75 (by omega) (by omega)
              refine V_aload0 eX2_plan_78 rfl ?_
              refine M_ga mb rfl eX2_plan_79 fl_X2_8_2 ?_
              refine V_sipush (v := 370) (by decide) eX2_plan_82 ?_
              refine V_iload6 eX2_plan_85 ?_
              refine V_iadd eX2_plan_87 ?_
              refine M_sl (n := (370 + p)) mb (zadd rfl rfl) (by omega) rfl eX2_plan_88 ?_
              refine V_iconst (v := 3) (by decide) eX2_plan_89 ?_
              refine V_if_icmpne eX2_plan_90 (fun c90 => ?_) (fun c90 => ?_)
              · refine V_iincN6 rfl eX2_plan_134 rfl ?_
                refine V_goto eX2_plan_137 ?_
                exact V.le (zle_c (zle_c (zle_c (zle_c (zle_c (zle_c (zle_c (zle_n (zle_n (zle_n (zle_n (zle_n (zle_n (zle_n (zle_n zle_0))))))))))))))) (ih60 hl60 ((nI k), q60.2) JA8_60 JF4_60 JF5_60 JF6_60 JF7_60 (by rw [zfold_s (n := p), ← hq60]; simp only [K_plan_60, hkc, if_neg c75, if_neg c90])  ⟨k, rfl, hk2, hk3⟩)
              · refine V_aload0 eX2_plan_93 rfl ?_
                refine M_ga mb rfl eX2_plan_94 fl_X2_8_2 ?_
                refine V_sipush (v := 790) (by decide) eX2_plan_97 ?_
                refine V_iload6 eX2_plan_100 ?_
                refine V_iadd eX2_plan_102 ?_
                refine M_sl (n := (790 + p)) mb (zadd rfl rfl) (by omega) rfl eX2_plan_103 ?_
                refine V_ifne eX2_plan_104 (fun c104 => ?_) (fun c104 => ?_)
                · refine V_iincN6 rfl eX2_plan_134 rfl ?_
                  refine V_goto eX2_plan_137 ?_
                  exact V.le (zle_c (zle_c (zle_c (zle_c (zle_c (zle_c (zle_c (zle_n (zle_n (zle_n (zle_n (zle_n (zle_n (zle_n (zle_n zle_0))))))))))))))) (ih60 hl60 ((nI k), q60.2) JA8_60 JF4_60 JF5_60 JF6_60 JF7_60 (by rw [zfold_s (n := p), ← hq60]; simp only [K_plan_60, hkc, if_neg c75, if_pos c90, if_neg c104])  ⟨k, rfl, hk2, hk3⟩)
                · refine V_aload0 eX2_plan_107 rfl ?_
                  refine V_iload6 eX2_plan_108 ?_
                  refine V_aload0 eX2_plan_110 rfl ?_
                  refine M_ga mb rfl eX2_plan_111 fl_X2_8_2 ?_
                  refine V_iconst (v := 0) (by decide) eX2_plan_114 ?_
                  refine M_sl (n := 0) mb rfl (by omega) rfl eX2_plan_115 ?_
                  obtain ⟨JRj1, Jfj1a, Jfj1b, Jfj1c, Jfj1d, hconj1⟩ := c_let (w := w) (A := (va_up (va_up A 8 JA8_60) 19 q60.2)) (B := B) (F := (va_up (va_up (va_up (va_up F 4 JF4_60) 5 JF5_60) 6 JF6_60) 7 JF7_60)) (S := S) mb p (S 0) hnp hnp60 ho hcl (by omega) (hbl p hl60 c90)
                  refine M_call mb eX2_plan_116 lmX2_canBeLet q2206 q2208 rfl qs78 hconj1 rfl rfl rfl rfl ?_
                  rw [ms_extA (show va_up (va_up (va_up A 8 JA8_60) 19 q60.2) 8 JRj1 = (va_up (va_up A 8 JRj1) 19 q60.2) from by
                      funext q
                      by_cases e8 : q = 8
                      · subst e8; rfl
                      by_cases e19 : q = 19
                      · subst e19; rfl
                      simp only [va_up, if_neg e8, if_neg e19])]
                  rw [ms_extF (show (va_up (va_up (va_up (va_up (va_up (va_up (va_up (va_up F 4 JF4_60) 5 JF5_60) 6 JF6_60) 7 JF7_60) 4 Jfj1a) 5 Jfj1b) 6 Jfj1c) 7 Jfj1d) = (va_up (va_up (va_up (va_up F 4 Jfj1a) 5 Jfj1b) 6 Jfj1c) 7 Jfj1d) from by
                      funext q
                      by_cases e4 : q = 4
                      · subst e4; rfl
                      by_cases e5 : q = 5
                      · subst e5; rfl
                      by_cases e6 : q = 6
                      · subst e6; rfl
                      by_cases e7 : q = 7
                      · subst e7; rfl
                      simp only [va_up, if_neg e4, if_neg e5, if_neg e6, if_neg e7])]
                  refine V_ifeq eX2_plan_119 (fun c119 => ?_) (fun c119 => ?_)
                  · refine V_iincN6 rfl eX2_plan_134 rfl ?_
                    refine V_goto eX2_plan_137 ?_
                    exact V.le (zle_c (zle_c (zle_c (zle_c (zle_c (zle_c (zle_c (zle_n (zle_n (zle_n (zle_n (zle_n (zle_n (zle_n (zle_n zle_0))))))))))))))) (ih60 hl60 ((nI k), q60.2) JRj1 Jfj1a Jfj1b Jfj1c Jfj1d (by rw [zfold_s (n := p), ← hq60]; simp only [K_plan_60, hkc, if_neg c75, if_pos c90, if_pos c104, if_pos c119])  ⟨k, rfl, hk2, hk3⟩)
                  · refine V_aload0 eX2_plan_122 rfl ?_
                    refine M_ga mb rfl eX2_plan_123 fl_X2_48_2 ?_
                    refine V_iload5 eX2_plan_126 ?_
                    refine V_iload6 eX2_plan_128 ?_
                    refine M_as (j := 19) (n := k) mb rfl (by decide) rfl (by show _ < _; first | decide | (simp only [mlen]; omega)) eX2_plan_130 ?_
                    obtain ⟨R_2, hR_2⟩ : ∃ T, T = va_up q60.2 k (nI p) := ⟨_, rfl⟩
                    rw [ms_extA (show va_up (va_up (va_up A 8 JRj1) 19 q60.2) 19 (va_up ((va_up (va_up A 8 JRj1) 19 q60.2) 19) k (nI p)) = (va_up (va_up A 8 JRj1) 19 R_2) from by
                        rw [hR_2]; funext q
                        by_cases e8 : q = 8
                        · subst e8; rfl
                        by_cases e19 : q = 19
                        · subst e19; rfl
                        simp only [va_up, if_neg e8, if_neg e19])]
                    refine V_iincN5 rfl eX2_plan_131 rfl ?_
                    refine V_iincN6 rfl eX2_plan_134 rfl ?_
                    refine V_goto eX2_plan_137 ?_
                    exact V.le (zle_c (zle_c (zle_c (zle_c (zle_c (zle_c (zle_c (zle_n (zle_n (zle_n (zle_n (zle_n (zle_n (zle_n (zle_n zle_0))))))))))))))) (ih60 hl60 ((nI (k + 1)), R_2) JRj1 Jfj1a Jfj1b Jfj1c Jfj1d (by rw [zfold_s (n := p), ← hq60]; simp only [K_plan_60, ← hR_2, hkc, if_neg c75, if_pos c90, if_pos c104, if_neg c119])  (by rw [hR_2]; exact ⟨k + 1, rfl, by omega, hk3.push hl60 hnp60 c90⟩))
        · refine V_bipush (v := -2) (by decide) eX2_plan_51 ?_
          have hE : (-2 : Int32) = o_plan S A np towns yd co what := by simp only [o_plan, if_neg c7, if_neg c27, if_neg c37, if_pos c48]
          exact V_ireturn eX2_plan_53 rfl (by rw [← hE]; exact ⟨rfl, _, _, _, (by rfl), (by rfl), rfl⟩)
  · refine V_iconst (v := -1) (by decide) eX2_plan_10 ?_
    have hE : (-1 : Int32) = o_plan S A np towns yd co what := by simp only [o_plan, if_pos c7]
    exact V_ireturn eX2_plan_11 rfl (by rw [← hE]; exact ⟨rfl, _, _, _, (by rfl), (by rfl), rfl⟩)

