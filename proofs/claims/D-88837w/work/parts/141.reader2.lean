/-- the first place with a property -/
def zfi (p : Nat → Bool) : Nat → Option Nat
  | 0 => none
  | n + 1 => match zfi p n with | some k => some k | none => if p n = true then some n else none
theorem zfi_none {P : Nat → Prop} [DecidablePred P] : ∀ {n : Nat}, (∀ j, j < n → ¬ P j) → zfi (fun k => decide (P k)) n = none
  | 0, _ => rfl
  | n + 1, h => by
    unfold zfi
    rw [zfi_none (fun j hj => h j (by omega))]
    simp [h n (by omega)]
theorem zfi_some {P : Nat → Prop} [DecidablePred P] {k : Nat} (hno : ∀ j, j < k → ¬ P j) (hk : P k) : ∀ {n : Nat}, k < n → zfi (fun k => decide (P k)) n = some k
  | 0, h => by omega
  | n + 1, h => by
    unfold zfi
    rcases (show k < n ∨ k = n by omega) with r | r
    · rw [zfi_some hno hk r]
    · subst r
      rw [zfi_none hno]
      simp [hk]
theorem C_virtualS {w : Wd} {mi mi' : Mi} {cc cc' : ByteArray} {L L' cb sb n : Nat} {h h1 : Hp} {pc pc' idx : Nat} {ls : List (Option Value)} {st st0 as : List Value} {Q : Outcome → Hp → Prop} {x : Value} {i : Nat} (hi : i < 7) (d : Dc cc pc (.invokevirtual idx) 3 pc') (lm : LM mi' cc' n) (l1 : Cond.methodLink mi.1.cls idx mi'.1 ∈ lw_all) (l2 : Cond.instanceMethod mi'.1 ∈ lw_all) (lc : mi'.1.cls = "java/lang/String") (l3 : Cond.selects "java/lang/String" mi'.1 mi'.1 ∈ lw_all) (con : Con w mi' cc' L' 0 0 (.ref (w.K (10 + i)) :: as) h (Rv x h1)) (hL : Nat.blt L' L = true) (hn : as.length = n) (hst : st0 = as.reverse ++ .ref (w.K (10 + i)) :: st) (hw : Nat.ble (st.map fun v => v.category).sum 8 = true) (kk : V w mi cc L cb sb h1 pc' ls (x :: st) Q) : V w mi cc L cb sb h pc ls st0 Q :=
  V_invokevirtualS (cb' := 0) (sb' := 0) hi d lm l1 l2 lc l3 con (hRet_v _ _) hL hn hst hw (kRv (P := fun v h' => V w mi cc L cb sb h' pc' ls (v.toList ++ st) Q) kk)
def K_oneWord_10 (S : Nat → Int32) (a : Nat) (sp : Nat) (ln : Nat) (q5 : Int32 × Int32 × Int32) (n : Nat) : Nat → Int32 → Int32 := fun k q10 =>
    if ((q5.1 >>> ((nI k) &&& 31)) &&& (1 : Int32)) = (1 : Int32) then
      if (nI (sln k)) ≤ (nI n) then
        (q10 ||| (0 : Int32))
      else
        if (nI (sby k n)) = (o_here S a (sp + n) ln) then
          (q10 ||| ((1 : Int32) <<< ((nI k) &&& 31)))
        else
          (q10 ||| (0 : Int32))
    else
      (q10 ||| (0 : Int32))
def K_oneWord_5_E (S : Nat → Int32) (F : Nat → Int32) (a : Nat) (sp : Nat) (ln : Nat) : Int32 × Int32 × Int32 → Int32 × Int32 × Int32 := fun q5 =>
    let n := q5.2.1.toNatClampNeg
    let q10 := zfold (K_oneWord_10 S a sp ln q5 n) 7 (0 : Int32)
    if q10 = 0 then
      ((0 : Int32), (nI (sp + n)), (1 : Int32))
    else
      match zfi (fun k => decide (q10 = (1 : Int32) <<< (nI k &&& 31) ∧ nI (sln k) = nI (n + 1))) 7 with
      | some k =>
        ((nI k), (nI ((sp + n) + 1)), (F 6))
      | none =>
        default
def K_oneWord_5 (S : Nat → Int32) (a : Nat) (sp : Nat) (ln : Nat) : Int32 × Int32 × Int32 → Option (Int32 × Int32 × Int32) := fun q5 =>
    let n := q5.2.1.toNatClampNeg
    let q10 := zfold (K_oneWord_10 S a sp ln q5 n) 7 (0 : Int32)
    if q10 = 0 then
      none
    else
      match zfi (fun k => decide (q10 = (1 : Int32) <<< (nI k &&& 31) ∧ nI (sln k) = nI (n + 1))) 7 with
      | some k =>
        none
      | none =>
        some (q10, (nI (n + 1)), (nI ((sp + n) + 1)))
def o_oneWord (S : Nat → Int32) (F : Nat → Int32) (a : Nat) (sp : Nat) (ln : Nat) : Int32 × Int32 × Int32 :=
  let q5 := zwh (K_oneWord_5 S a sp ln) zBIG ((127 : Int32), (0 : Int32), (nI sp))
  (K_oneWord_5_E S F a sp ln q5)
theorem ow_lt {k n : Nat} (h : ¬ nI (sln k) ≤ nI n) (hk : k < 7) (hn : n ≤ 7) : n < sln k := nnle h (by have := sln_le k hk; omega) (by omega)
theorem ow_left {S : Nat → Int32} {a sp ln n : Nat} {q5 : Int32 × Int32 × Int32} {x : Int32} (hn : n ≤ 7) (hx : x = zfold (K_oneWord_10 S a sp ln q5 n) 7 0) (h0 : ¬ x = 0) : ∃ k, k < 7 ∧ n < sln k ∧ nI (sby k n) = o_here S a (sp + n) ln := by
  have h1 : x = 0 ∨ ∃ k, k < 7 ∧ n < sln k ∧ nI (sby k n) = o_here S a (sp + n) ln := by
    rw [hx]
    refine zfold_inv (n := 7) (P := fun _ q => q = 0 ∨ ∃ k, k < 7 ∧ n < sln k ∧ nI (sby k n) = o_here S a (sp + n) ln) (Or.inl rfl) (fun k hk q hq => ?_)
    have keep : (q ||| 0 = 0) ∨ ∃ k, k < 7 ∧ n < sln k ∧ nI (sby k n) = o_here S a (sp + n) ln := by
      rcases hq with e | e
      · exact Or.inl (by rw [e]; decide)
      · exact Or.inr e
    simp only [K_oneWord_10]
    repeat' split
    all_goals first | exact keep | skip
    next c1 c2 c3 => exact Or.inr ⟨k, hk, ow_lt c2 hk hn, c3⟩
  exact h1.resolve_left h0
theorem c_oneWord {w : Wd} {h : Hp} {m : Nat} {ad : Nat → Nat} {A : Nat → Nat → Int32} {B : Nat → Nat → Int64} {F S : Nat → Int32} (mb : MB h m ad)  {a sp ln : Nat} (hF4 : F 4 = nI a) (ha : a < 9) (hF5 : F 5 = nI sp) (hsp : sp ≤ ln) (hln : S (9630 + a) = nI ln) (hln4 : ln ≤ 140) (sb : SB w h) : Con w mX2_oneWord cX2_oneWord 5 0 0 [.ref m] (ms h A B F S) (Rv (.int (o_oneWord S F a sp ln).1) (ms h A B (va_up (va_up F 5 (o_oneWord S F a sp ln).2.1) 6 (o_oneWord S F a sp ln).2.2) S)) := by
  refine Con.of (by decide +kernel) rfl rfl ?_
  show V w mX2_oneWord cX2_oneWord 5 0 0 _ 0 [some (.ref m), none, none, none, none] [] _
  rw [ms_extF (show F = (va_up (va_up F 5 (F 5)) 6 (F 6)) from by
    funext q
    by_cases e5 : q = 5
    · subst e5; rfl
    by_cases e6 : q = 6
    · subst e6; rfl
    simp only [va_up, if_neg e5, if_neg e6])]
  rw [hF5]
  refine V_bipush (v := 127) (by decide) eX2_oneWord_0 ?_
  refine V_istore1 rfl eX2_oneWord_2 rfl ?_
  refine V_iconst (v := 0) (by decide) eX2_oneWord_3 ?_
  refine V_istore2 rfl eX2_oneWord_4 rfl ?_
  refine V.le (zle_c (zle_c (zle_c (zle_n (zle_n zle_0))))) (zwl (P := fun n5 => ∀ q5 : Int32 × Int32 × Int32, zwh (K_oneWord_5 S a sp ln) zBIG ((127 : Int32), (0 : Int32), (nI sp)) = zwh (K_oneWord_5 S a sp ln) n5 q5 → (∃ n, q5.2.1 = nI n ∧ q5.2.2 = nI (sp + n) ∧ n ≤ 7 ∧ sp + n ≤ ln) → (8 - q5.2.1.toNatClampNeg ≤ n5) → V w mX2_oneWord cX2_oneWord 5 0 0 (ms h A B (va_up (va_up F 5 q5.2.2) 6 (F 6)) S) 5 [some (.ref m), some (.int q5.1), some (.int q5.2.1), none, none] [] _) (fun n5 ih5 q5 hR5 hI hM => ?_) zBIG ((127 : Int32), (0 : Int32), (nI sp)) rfl ⟨0, rfl, rfl, by omega, by omega⟩ (by show 8 - _ ≤ 100000000; omega))
  obtain ⟨n, hn1, hn2, hn3, hn4⟩ := id hI
  have hnc : q5.2.1.toNatClampNeg = n := by rw [hn1]; exact nI_clamp (by omega)
  rw [hn1, hn2]
  refine V_iconst (v := 0) (by decide) eX2_oneWord_5 ?_
  refine V_istore3 rfl eX2_oneWord_6 rfl ?_
  refine V_iconst (v := 0) (by decide) eX2_oneWord_7 ?_
  refine V_istore4 rfl eX2_oneWord_8 rfl ?_
  refine V.le (zle_c (zle_c (zle_c (zle_c (zle_c zle_0))))) (zloop (P := fun k => ∀ q10 : Int32, q10 = zfold (K_oneWord_10 S a sp ln q5 n) k (0 : Int32) → V w mX2_oneWord cX2_oneWord 5 0 0 (ms h A B (va_up (va_up F 5 (nI (sp + n))) 6 (F 6)) S) 10 [some (.ref m), some (.int q5.1), some (.int (nI n)), some (.int q10), some (.int (nI k))] [] _) 7 (fun k hk ih10 q10 hq10  => ?_) 0 (Nat.zero_le _) (0 : Int32) rfl )
  refine V_iload4 eX2_oneWord_10 ?_
  refine V_bipush (v := 7) (by decide) eX2_oneWord_12 ?_
  refine V_if_icmpge eX2_oneWord_14 (fun c14 => ?_) (fun c14 => ?_)
  · have e10 : k = 7 := by have := nle (a := 7) c14 (by omega) (by omega); omega
    rw [e10] at hq10
    refine V_iload3 eX2_oneWord_72 ?_
    refine V_ifne eX2_oneWord_73 (fun c73 => ?_) (fun c73 => ?_)
    · have hL7 := ow_left hn3 hq10 c73
      have hn7 : n < 7 := by obtain ⟨k, hk, h1, h2⟩ := hL7; have := sln_le k hk; omega
      have hlt := here_lt (a := a) (sp := sp + n) (ln := ln) (S := S) (by obtain ⟨k, hk, h1, h2⟩ := hL7; rw [← h2]; exact nIneg (by have := sby_lt k hk n (by omega); omega)) (by omega) hln4
      refine V_iload3 eX2_oneWord_83 ?_
      refine V_istore1 rfl eX2_oneWord_84 rfl ?_
      refine V_aload0 eX2_oneWord_85 rfl ?_
      refine V_dup rfl eX2_oneWord_86 ?_
      refine M_gi mb (Or.inl rfl) (show _ = (nI (sp + n)) from rfl) eX2_oneWord_87 fl_X2_75_2 ?_
      refine V_iconst (v := 1) (by decide) eX2_oneWord_90 ?_
      refine V_iadd eX2_oneWord_91 ?_
      refine M_pi mb (Or.inl rfl) rfl eX2_oneWord_92 fl_X2_75_2 ?_
      rw [show ((nI (sp + n)) + (1 : Int32)) = nI ((sp + n) + 1) from (zadd rfl rfl)]
      rw [ms_extF (show va_up (va_up (va_up F 5 (nI (sp + n))) 6 (F 6)) 5 (nI ((sp + n) + 1)) = (va_up (va_up F 5 (nI ((sp + n) + 1))) 6 (F 6)) from by
          funext q
          by_cases e5 : q = 5
          · subst e5; rfl
          by_cases e6 : q = 6
          · subst e6; rfl
          simp only [va_up, if_neg e5, if_neg e6])]
      refine V_iincN2 rfl eX2_oneWord_95 rfl ?_
      refine V_iconst (v := 0) (by decide) eX2_oneWord_98 ?_
      refine V_istore4 rfl eX2_oneWord_99 rfl ?_
      refine V.le (zle_c (zle_c (zle_c (zle_n (zle_c zle_0))))) (zloop (P := fun k => (∀ j, j < k → ¬ (fun k => q10 = (1 : Int32) <<< (nI k &&& 31) ∧ nI (sln k) = nI (n + 1)) j) → V w mX2_oneWord cX2_oneWord 5 0 0 (ms h A B (va_up (va_up F 5 (nI ((sp + n) + 1))) 6 (F 6)) S) 101 [some (.ref m), some (.int q10), some (.int (nI (n + 1))), none, some (.int (nI k))] [] _) 7 (fun k hk ih101 hno101 => ?_) 0 (Nat.zero_le _) (fun j hj => absurd hj (by omega)))
      refine V_iload4 eX2_oneWord_101 ?_
      refine V_bipush (v := 7) (by decide) eX2_oneWord_103 ?_
      refine V_if_icmpge eX2_oneWord_105 (fun c105 => ?_) (fun c105 => ?_)
      · have e101 : k = 7 := by have := nle (a := 7) c105 (by omega) (by omega); omega
        have hz101 : zfi (fun k => decide (q10 = (1 : Int32) <<< (nI k &&& 31) ∧ nI (sln k) = nI (n + 1))) 7 = none := zfi_none (by rw [e101] at hno101; exact hno101)
        refine V_goto eX2_oneWord_137 ?_
        have hK5 : K_oneWord_5 S a sp ln q5 = some (q10, (nI (n + 1)), (nI ((sp + n) + 1))) := by simp only [K_oneWord_5, ← hq10, hnc, hz101, if_neg c73]
        obtain ⟨n5, rfl⟩ : ∃ k, n5 = k + 1 := ⟨n5 - 1, by rw [hnc] at hM; omega⟩
        exact V.le (zle_c (zle_c (zle_c (zle_n (zle_n zle_0))))) (ih5 n5 rfl (q10, (nI (n + 1)), (nI ((sp + n) + 1))) (hR5.trans (zwh_s hK5))  ⟨n + 1, rfl, rfl, by omega, by omega⟩ (by rw [nI_clamp (by omega)]; rw [hnc] at hM; omega))
      · have hl101 : k < 7 := by have := nnle (a := 7) c105 (by omega) (by omega); omega
        refine V_iload1 eX2_oneWord_108 ?_
        refine V_iconst (v := 1) (by decide) eX2_oneWord_109 ?_
        refine V_iload4 eX2_oneWord_110 ?_
        refine V_ishl eX2_oneWord_112 ?_
        refine V_if_icmpne eX2_oneWord_113 (fun c113 => ?_) (fun c113 => ?_)
        · refine V_iincN4 rfl eX2_oneWord_131 rfl ?_
          refine V_goto eX2_oneWord_134 ?_
          exact V.le (zle_c (zle_c (zle_c (zle_n (zle_c zle_0))))) (ih101 hl101 (fun j hj => by
            rcases (show j < k ∨ j = k by omega) with r | r
            · exact hno101 j r
            · subst r; intro hC; first | exact c113 hC.1 | exact c125 hC.2))
        · refine V_iload4 eX2_oneWord_116 ?_
          refine C0_static eX2_oneWord_118 lmX2_word q2009 q2010 (c_word (i := k) (by omega)) rfl rfl rfl rfl ?_
          refine C_virtualS (i := k) (as := []) (by omega) eX2_oneWord_121 lmJ10_length q2019 q2020 rfl q2021 (c_sLen sb.ms (i := k) (by omega)) rfl rfl rfl rfl ?_
          refine V_iload2 eX2_oneWord_124 ?_
          refine V_if_icmpne eX2_oneWord_125 (fun c125 => ?_) (fun c125 => ?_)
          · refine V_iincN4 rfl eX2_oneWord_131 rfl ?_
            refine V_goto eX2_oneWord_134 ?_
            exact V.le (zle_c (zle_c (zle_c (zle_n (zle_c zle_0))))) (ih101 hl101 (fun j hj => by
              rcases (show j < k ∨ j = k by omega) with r | r
              · exact hno101 j r
              · subst r; intro hC; first | exact c113 hC.1 | exact c125 hC.2))
          · have hz101 : zfi (fun k => decide (q10 = (1 : Int32) <<< (nI k &&& 31) ∧ nI (sln k) = nI (n + 1))) 7 = some k := zfi_some hno101 ⟨c113, c125⟩ hl101
            refine V_iload4 eX2_oneWord_128 ?_
            have hK5 : K_oneWord_5 S a sp ln q5 = none := by simp only [K_oneWord_5, ← hq10, hnc, hz101, if_neg c73]
            have hq5 : q5 = zwh (K_oneWord_5 S a sp ln) zBIG ((127 : Int32), (0 : Int32), (nI sp)) := (hR5.trans (zwh_n hK5)).symm
            have hE : ((nI k), (nI ((sp + n) + 1)), (F 6)) = o_oneWord S F a sp ln := by simp only [o_oneWord, ← hq5, K_oneWord_5_E, ← hq10, hnc, hz101, if_neg c73]
            exact V_ireturn eX2_oneWord_130 rfl (by rw [← hE]; exact ⟨rfl, rfl⟩)
    · refine V_aload0 eX2_oneWord_76 rfl ?_
      refine V_iconst (v := 1) (by decide) eX2_oneWord_77 ?_
      refine M_pz mb (Or.inl rfl) rfl (by decide) eX2_oneWord_78 fl_X2_81_2 ?_
      rw [ms_extF (show va_up (va_up (va_up F 5 (nI (sp + n))) 6 (F 6)) 6 (1 : Int32) = (va_up (va_up F 5 (nI (sp + n))) 6 (1 : Int32)) from by
          funext q
          by_cases e5 : q = 5
          · subst e5; rfl
          by_cases e6 : q = 6
          · subst e6; rfl
          simp only [va_up, if_neg e5, if_neg e6])]
      refine V_iconst (v := 0) (by decide) eX2_oneWord_81 ?_
      have hK5 : K_oneWord_5 S a sp ln q5 = none := by simp only [K_oneWord_5, ← hq10, hnc, if_pos c73]
      have hq5 : q5 = zwh (K_oneWord_5 S a sp ln) zBIG ((127 : Int32), (0 : Int32), (nI sp)) := (hR5.trans (zwh_n hK5)).symm
      have hE : ((0 : Int32), (nI (sp + n)), (1 : Int32)) = o_oneWord S F a sp ln := by simp only [o_oneWord, ← hq5, K_oneWord_5_E, ← hq10, hnc, if_pos c73]
      exact V_ireturn eX2_oneWord_82 rfl (by rw [← hE]; exact ⟨rfl, rfl⟩)
  · have hl10 : k < 7 := by have := nnle (a := 7) c14 (by omega) (by omega); omega
    refine V_iload3 eX2_oneWord_17 ?_
    refine V_iload1 eX2_oneWord_18 ?_
    refine V_iload4 eX2_oneWord_19 ?_
    refine V_ishr eX2_oneWord_21 ?_
    refine V_iconst (v := 1) (by decide) eX2_oneWord_22 ?_
    refine V_iand eX2_oneWord_23 ?_
    refine V_iconst (v := 1) (by decide) eX2_oneWord_24 ?_
    refine V_if_icmpne eX2_oneWord_25 (fun c25 => ?_) (fun c25 => ?_)
    · refine V_iconst (v := 0) (by decide) eX2_oneWord_63 ?_
      refine V_ior eX2_oneWord_64 ?_
      refine V_istore3 rfl eX2_oneWord_65 rfl ?_
      refine V_iincN4 rfl eX2_oneWord_66 rfl ?_
      refine V_goto eX2_oneWord_69 ?_
      exact V.le (zle_c (zle_c (zle_c (zle_c (zle_c zle_0))))) (ih10 hl10 (q10 ||| (0 : Int32)) (by rw [zfold_s (n := k), ← hq10]; simp only [K_oneWord_10, hnc, if_neg c25])  )
    · refine V_iload2 eX2_oneWord_28 ?_
      refine V_iload4 eX2_oneWord_29 ?_
      refine C0_static eX2_oneWord_31 lmX2_word q2009 q2010 (c_word (i := k) (by omega)) rfl rfl rfl rfl ?_
      refine C_virtualS (i := k) (as := []) (by omega) eX2_oneWord_34 lmJ10_length q2019 q2020 rfl q2021 (c_sLen sb.ms (i := k) (by omega)) rfl rfl rfl rfl ?_
      have hsl := sln_le k (by omega)
      refine V_if_icmpge eX2_oneWord_37 (fun c37 => ?_) (fun c37 => ?_)
      · refine V_iconst (v := 0) (by decide) eX2_oneWord_63 ?_
        refine V_ior eX2_oneWord_64 ?_
        refine V_istore3 rfl eX2_oneWord_65 rfl ?_
        refine V_iincN4 rfl eX2_oneWord_66 rfl ?_
        refine V_goto eX2_oneWord_69 ?_
        exact V.le (zle_c (zle_c (zle_c (zle_c (zle_c zle_0))))) (ih10 hl10 (q10 ||| (0 : Int32)) (by rw [zfold_s (n := k), ← hq10]; simp only [K_oneWord_10, hnc, if_pos c25, if_pos c37])  )
      · have hjl : n < sln k := nnle c37 (by omega) (by have := sln_le k (by omega); omega)
        refine V_iload4 eX2_oneWord_40 ?_
        refine C0_static eX2_oneWord_42 lmX2_word q2009 q2010 (c_word (i := k) (by omega)) rfl rfl rfl rfl ?_
        refine V_iload2 eX2_oneWord_45 ?_
        refine C_virtualS (i := k) (as := [.int (nI n)]) (by omega) eX2_oneWord_46 lmJ10_charAt q2027 q2028 rfl q2029 (c_sChar sb.ms (i := k) (by omega) (j := n) hjl) rfl rfl rfl rfl ?_
        refine V_aload0 eX2_oneWord_49 rfl ?_
        refine M_call mb eX2_oneWord_50 lmX2_here q2063 q2065 rfl qs57 (c_here mb (a := a) (sp := (sp + n)) (ln := ln) hF4 ha (show _ = nI (sp + n) from rfl) (by omega) hln hln4) rfl rfl rfl rfl ?_
        refine V_if_icmpne eX2_oneWord_53 (fun c53 => ?_) (fun c53 => ?_)
        · refine V_iconst (v := 0) (by decide) eX2_oneWord_63 ?_
          refine V_ior eX2_oneWord_64 ?_
          refine V_istore3 rfl eX2_oneWord_65 rfl ?_
          refine V_iincN4 rfl eX2_oneWord_66 rfl ?_
          refine V_goto eX2_oneWord_69 ?_
          exact V.le (zle_c (zle_c (zle_c (zle_c (zle_c zle_0))))) (ih10 hl10 (q10 ||| (0 : Int32)) (by rw [zfold_s (n := k), ← hq10]; simp only [K_oneWord_10, hnc, if_pos c25, if_neg c37, if_neg c53])  )
        · refine V_iconst (v := 1) (by decide) eX2_oneWord_56 ?_
          refine V_iload4 eX2_oneWord_57 ?_
          refine V_ishl eX2_oneWord_59 ?_
          refine V_goto eX2_oneWord_60 ?_
          refine V_ior eX2_oneWord_64 ?_
          refine V_istore3 rfl eX2_oneWord_65 rfl ?_
          refine V_iincN4 rfl eX2_oneWord_66 rfl ?_
          refine V_goto eX2_oneWord_69 ?_
          exact V.le (zle_c (zle_c (zle_c (zle_c (zle_c zle_0))))) (ih10 hl10 (q10 ||| ((1 : Int32) <<< ((nI k) &&& 31))) (by rw [zfold_s (n := k), ← hq10]; simp only [K_oneWord_10, hnc, if_pos c25, if_neg c37, if_pos c53])  )

