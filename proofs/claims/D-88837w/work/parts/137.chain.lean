def K_chain_171 (S : Nat → Int32) (np : Nat) (x : Nat) (y : Nat) (ta : Nat) (tb : Nat) : Int32 × Int32 × (Nat → Int32) → Option (Int32 × Int32 × (Nat → Int32)) := fun q171 =>
    let k := q171.1.toNatClampNeg
    if q171.2.1 = 0 then
      none
    else
      let z := sn q171.2.2 (204 + x)
      if (nI z) ≤ (nI k) then
        let t1 := va_up q171.2.2 (910 + np) (nI k)
        some ((nI k), (0 : Int32), t1)
      else
        if (zin (q171.2.2 ((208 + (40 * x)) + k)) 0 79) = 0 then
          let t2 := va_up q171.2.2 (910 + np) (nI k)
          some ((nI k), (0 : Int32), t2)
        else
          let c := ((q171.2.2 ((208 + (40 * x)) + k))).toNatClampNeg
          if (nI k) = 0 then
            if (nI c) = (S (180 + ta)) then
              let t3 := va_up q171.2.2 ((4700 + (41 * np)) + k) (nI c)
              let t4 := va_up t3 ((7160 + (41 * np)) + k) (o_levelOf t3 np k y c)
              let t5 := va_up t4 (850 + np) (nI (k + 1))
              if (nI c) = (S (180 + tb)) then
                let t6 := va_up t5 (910 + np) (-5 : Int32)
                some ((nI (k + 1)), (0 : Int32), t6)
              else
                let t7 := va_up t5 (910 + np) (-5 : Int32)
                some ((nI (k + 1)), (1 : Int32), t7)
            else
              let t8 := va_up q171.2.2 (910 + np) (nI k)
              some ((nI k), (0 : Int32), t8)
          else
            let k1 := k - 1
            let c1 := sn q171.2.2 (4700 + 41 * np + k1)
            if (bI (zbes (nI c) (nI c1))) = 0 then
              let t9 := va_up q171.2.2 (910 + np) (nI (k1 + 1))
              some ((nI (k1 + 1)), (0 : Int32), t9)
            else
              if (bI (decide (¬ zplace q171.2.2 np (nI c) = -1))) = 0 then
                let t10 := va_up q171.2.2 ((4700 + (41 * np)) + (k1 + 1)) (nI c)
                let t11 := va_up t10 ((7160 + (41 * np)) + (k1 + 1)) (o_levelOf t10 np (k1 + 1) y c)
                let t12 := va_up t11 (850 + np) (nI ((k1 + 1) + 1))
                if (nI c) = (S (180 + tb)) then
                  let t13 := va_up t12 (910 + np) (-5 : Int32)
                  some ((nI ((k1 + 1) + 1)), (0 : Int32), t13)
                else
                  let t14 := va_up t12 (910 + np) (-5 : Int32)
                  some ((nI ((k1 + 1) + 1)), (1 : Int32), t14)
              else
                let t15 := va_up q171.2.2 (910 + np) (nI (k1 + 1))
                some ((nI (k1 + 1)), (0 : Int32), t15)
def o_chain (S : Nat → Int32) (np : Nat) (sc : Int32) (ce : Int32) (ri : Int32) : Int32 × (Nat → Int32) :=
  if (bI (zof S sc (1 : Int32))) = 0 then
    ((-1 : Int32), S)
  else
    let q := sc.toNatClampNeg
    if (zin ce 0 3) = 0 then
      ((-1 : Int32), S)
    else
      let x := ce.toNatClampNeg
      if (zin ri 0 3) = 0 then
        ((-1 : Int32), S)
      else
        let y := ri.toNatClampNeg
        if (S (200 + x)) = (-1 : Int32) then
          ((-11 : Int32), S)
        else
          if (S (200 + x)) = 0 then
            if (nI np) = (60 : Int32) then
              ((-4 : Int32), S)
            else
              let ta := sn S (550 + q)
              let tb := sn S (610 + q)
              let S_1 := (o_paper S 2 (nI q) (nI ta) (nI tb) (S (670 + q)) (-1)).2
              let S_2 := va_up S_1 (850 + np) (0 : Int32)
              let q171 := zwh (K_chain_171 S np x y ta tb) zBIG ((0 : Int32), (1 : Int32), S_2)
              ((nI np), q171.2.2)
          else
            ((-13 : Int32), S)
theorem paper_fr {S : Nat → Int32} {a b c d e f : Int32} {np j : Nat} (hnp : S 2 = nI np) (h60 : np < 60) (hj : j < 2 ∨ 2 < j ∧ j < 370 ∨ 850 ≤ j) : (o_paper S a b c d e f).2 j = S j := by
  have hs := sn_of hnp (by omega)
  unfold o_paper
  rw [hs]
  show va_up _ 2 _ j = _
  rw [va_up_ne _ _ (by omega), va_up_ne _ _ (by omega), va_up_ne _ _ (by omega), va_up_ne _ _ (by omega), va_up_ne _ _ (by omega), va_up_ne _ _ (by omega), va_up_ne _ _ (by omega), va_up_ne _ _ (by omega), va_up_ne _ _ (by omega)]
def chI (S1 : Nat → Int32) (np : Nat) (q : Int32 × Int32 × (Nat → Int32)) : Prop :=
  (∃ k, q.1 = nI k ∧ k ≤ 40 ∧ q.2.2 (850 + np) = nI k ∧ ∀ j, j < k → ∃ c, q.2.2 (4700 + 41 * np + j) = nI c ∧ c < 80) ∧ ∀ j, (j < 850 ∨ 970 ≤ j ∧ j < 4700 ∨ 9620 ≤ j) → q.2.2 j = S1 j
def chM (q : Int32 × Int32 × (Nat → Int32)) : Nat := if q.2.1 = 0 then 0 else 1 + (41 - q.1.toNatClampNeg)
theorem chM_0 (T : Nat → Int32) : chM ((0 : Int32), (1 : Int32), T) ≤ zBIG := by
  show _ ≤ 100000000
  unfold chM
  split <;> omega
theorem ch_fail {S1 T : Nat → Int32} {np k : Nat} {a on on' v : Int32} (hnp : np < 60) (h : chI S1 np (a, on, T)) (ha : a = nI k) : chI S1 np (nI k, on', va_up T (910 + np) v) := by
  obtain ⟨⟨k', h1, h2, h3, h4⟩, h5⟩ := h
  have e : nI k = nI k' := ha.symm.trans h1
  refine ⟨⟨k', e, h2, ?_, fun j hj => ?_⟩, fun j hj => ?_⟩
  · show va_up T _ _ _ = _
    rw [va_up_ne _ _ (by omega)]; exact h3
  · show ∃ c, va_up T _ _ _ = _ ∧ _
    rw [va_up_ne _ _ (by omega)]; exact h4 j hj
  · show va_up T _ _ _ = _
    rw [va_up_ne _ _ (by omega)]; exact h5 j hj
theorem ch_succ {S1 T : Nat → Int32} {np k c : Nat} {a on on' v u : Int32} (hnp : np < 60) (h : chI S1 np (a, on, T)) (ha : a = nI k) (hk : k < 40) (hc : c < 80) :
    chI S1 np (nI (k + 1), on', va_up (va_up (va_up (va_up T (4700 + 41 * np + k) (nI c)) (7160 + 41 * np + k) v) (850 + np) (nI (k + 1))) (910 + np) u) := by
  obtain ⟨⟨k', h1, h2, h3, h4⟩, h5⟩ := h
  have e : k' = k := by
    have := h1.symm.trans ha
    exact neq this (by omega) (by omega)
  subst e
  refine ⟨⟨k' + 1, rfl, by omega, ?_, fun j hj => ?_⟩, fun j hj => ?_⟩
  · show va_up (va_up _ _ _) _ _ _ = _
    rw [va_up_ne _ _ (by omega), va_up_self]
  · show ∃ c, va_up (va_up (va_up (va_up T _ _) _ _) _ _) _ _ _ = _ ∧ _
    rw [va_up_ne _ _ (by omega), va_up_ne _ _ (by omega), va_up_ne _ _ (by omega)]
    by_cases ej : j = k'
    · subst ej
      exact ⟨c, va_up_self _ _ _, hc⟩
    · rw [va_up_ne _ _ (by omega)]
      exact h4 j (by omega)
  · show va_up (va_up (va_up (va_up T _ _) _ _) _ _) _ _ _ = _
    rw [va_up_ne _ _ (by omega), va_up_ne _ _ (by omega), va_up_ne _ _ (by omega), va_up_ne _ _ (by omega)]
    exact h5 j hj
theorem ch_K {S S1 : Nat → Int32} {np x y ta tb z0 : Nat} {q r : Int32 × Int32 × (Nat → Int32)} (hnp : np < 60) (hz : S1 (204 + x) = nI z0 ∧ z0 ≤ 40 ∧ x < 4) (h : chI S1 np q) (hK : K_chain_171 S np x y ta tb q = some r) : chI S1 np r ∧ chM r < chM q := by
  obtain ⟨a, on, T⟩ := q
  obtain ⟨k, ha, hk40, hk3, hk4⟩ := id h.1
  dsimp only at ha
  have hkc : a.toNatClampNeg = k := by rw [ha]; exact nI_clamp (by omega)
  have hzT : sn T (204 + x) = z0 := sn_of ((h.2 (204 + x) (by omega)).trans hz.1) (by omega)
  simp only [K_chain_171, hkc, hzT] at hK
  split at hK
  · cases hK
  next hon =>
  have hM : chM (a, on, T) = 1 + (41 - k) := by unfold chM; rw [if_neg hon]; dsimp only; rw [hkc]
  rw [hM]
  have fin0 : ∀ (b : Int32) (U : Nat → Int32), chM (b, (0 : Int32), U) < 1 + (41 - k) := fun b U => by unfold chM; rw [if_pos rfl]; omega
  have fin1 : ∀ (U : Nat → Int32), k < 40 → chM (nI (k + 1), (1 : Int32), U) < 1 + (41 - k) := fun U hk => by unfold chM; rw [if_neg (show ¬ (1 : Int32) = 0 by decide)]; dsimp only; rw [nI_clamp (by omega)]; omega
  split at hK
  · cases hK
    exact ⟨ch_fail hnp h ha, fin0 _ _⟩
  next hzk =>
  have hkz : k < z0 := nnle hzk (by omega) (by omega)
  split at hK
  · cases hK
    exact ⟨ch_fail hnp h ha, fin0 _ _⟩
  next hcell =>
  obtain ⟨c, hc, hce⟩ := zinN (m := 79) hcell rfl (by decide)
  have hcc : (T (208 + 40 * x + k)).toNatClampNeg = c := by rw [hce]; exact nI_clamp (by omega)
  rw [hcc] at hK
  split at hK
  · split at hK
    · split at hK
      · cases hK
        exact ⟨ch_succ hnp h ha (by omega) (by omega), fin0 _ _⟩
      · cases hK
        exact ⟨ch_succ hnp h ha (by omega) (by omega), fin1 _ (by omega)⟩
    · cases hK
      exact ⟨ch_fail hnp h ha, fin0 _ _⟩
  next hk0 =>
  have hk0 : k - 1 + 1 = k := by
    have : k ≠ 0 := fun e => hk0 (by rw [e]; rfl)
    omega
  rw [hk0] at hK
  split at hK
  · cases hK
    exact ⟨ch_fail hnp h ha, fin0 _ _⟩
  · split at hK
    · split at hK
      · cases hK
        exact ⟨ch_succ hnp h ha (by omega) (by omega), fin0 _ _⟩
      · cases hK
        exact ⟨ch_succ hnp h ha (by omega) (by omega), fin1 _ (by omega)⟩
    · cases hK
      exact ⟨ch_fail hnp h ha, fin0 _ _⟩
theorem c_chain {w : Wd} {h : Hp} {m : Nat} {ad : Nat → Nat} {A : Nat → Nat → Int32} {B : Nat → Nat → Int64} {F S : Nat → Int32} (mb : MB h m ad) (sc : Int32) (ce : Int32) (ri : Int32) {np : Nat} (hnp : S 2 = nI np) (hnp60 : np ≤ 60) (htn : ∀ p, p < np → S (370 + p) = 1 → ∃ a b, S (550 + p) = nI a ∧ a < 6 ∧ S (610 + p) = nI b ∧ b < 6) (hsz : ∀ c, c < 4 → ∃ z, S (204 + c) = nI z ∧ z ≤ 40) : Con w mX2_chain cX2_chain 4 0 0 [.ref m, .int sc, .int ce, .int ri] (ms h A B F S) (Rv (.int (o_chain S np sc ce ri).1) (ms h A B F (o_chain S np sc ce ri).2)) := by
  refine Con.of (by decide +kernel) rfl rfl ?_
  show V w mX2_chain cX2_chain 4 0 0 _ 0 [some (.ref m), some (.int sc), some (.int ce), some (.int ri), none, none, none, none, none, none, none] [] _
  refine V_aload0 eX2_chain_0 rfl ?_
  refine V_iload1 eX2_chain_1 ?_
  refine V_iconst (v := 1) (by decide) eX2_chain_2 ?_
  refine M_call mb eX2_chain_3 lmX2_isOf q2119 q2121 rfl qs67 (c_isOf mb _ _ hnp hnp60) rfl rfl rfl rfl ?_
  refine V_ifeq eX2_chain_6 (fun c6 => ?_) (fun c6 => ?_)
  · refine V_iconst (v := -1) (by decide) eX2_chain_23 ?_
    have hE : ((-1 : Int32), S) = o_chain S np sc ce ri := by simp only [o_chain, if_pos c6]
    exact V_ireturn eX2_chain_24 rfl (by rw [← hE]; exact ⟨rfl, rfl⟩)
  · have hz := bI_n0.mp c6
    obtain ⟨q, hq, rfl, hk⟩ := zof_get hz hnp hnp60
    have hqc : (nI q).toNatClampNeg = q := nI_clamp (by omega)
    obtain ⟨ta, tb, hta0, hta6, htb0, htb6⟩ := htn q hq hk
    refine V_iload2 eX2_chain_9 ?_
    refine C0_static eX2_chain_10 lmX2_isSheet q2127 q2128 (c_isSheet _ _) rfl rfl rfl rfl ?_
    refine V_ifeq eX2_chain_13 (fun c13 => ?_) (fun c13 => ?_)
    · refine V_iconst (v := -1) (by decide) eX2_chain_23 ?_
      have hE : ((-1 : Int32), S) = o_chain S np (nI q) ce ri := by simp only [o_chain, hqc, if_neg c6, if_pos c13]
      exact V_ireturn eX2_chain_24 rfl (by rw [← hE]; exact ⟨rfl, rfl⟩)
    · obtain ⟨x, hx, rfl⟩ := zinN (m := 3) c13 rfl (by decide)
      have hxc : (nI x).toNatClampNeg = x := nI_clamp (by omega)
      refine V_iload3 eX2_chain_16 ?_
      refine C0_static eX2_chain_17 lmX2_isSheet q2127 q2128 (c_isSheet _ _) rfl rfl rfl rfl ?_
      refine V_ifne eX2_chain_20 (fun c20 => ?_) (fun c20 => ?_)
      · obtain ⟨y, hy, rfl⟩ := zinN (m := 3) c20 rfl (by decide)
        have hyc : (nI y).toNatClampNeg = y := nI_clamp (by omega)
        refine V_aload0 eX2_chain_25 rfl ?_
        refine M_ga mb rfl eX2_chain_26 fl_X2_8_2 ?_
        refine V_sipush (v := 200) (by decide) eX2_chain_29 ?_
        refine V_iload2 eX2_chain_32 ?_
        refine V_iadd eX2_chain_33 ?_
        refine M_sl (n := (200 + x)) mb (zadd rfl rfl) (by omega) rfl eX2_chain_34 ?_
        refine V_iconst (v := -1) (by decide) eX2_chain_35 ?_
        refine V_if_icmpne eX2_chain_36 (fun c36 => ?_) (fun c36 => ?_)
        · refine V_aload0 eX2_chain_42 rfl ?_
          refine M_ga mb rfl eX2_chain_43 fl_X2_8_2 ?_
          refine V_sipush (v := 200) (by decide) eX2_chain_46 ?_
          refine V_iload2 eX2_chain_49 ?_
          refine V_iadd eX2_chain_50 ?_
          refine M_sl (n := (200 + x)) mb (zadd rfl rfl) (by omega) rfl eX2_chain_51 ?_
          refine V_ifeq eX2_chain_52 (fun c52 => ?_) (fun c52 => ?_)
          · refine V_aload0 eX2_chain_58 rfl ?_
            refine M_ga mb rfl eX2_chain_59 fl_X2_8_2 ?_
            refine V_iconst (v := 2) (by decide) eX2_chain_62 ?_
            refine M_sl (n := 2) mb rfl (by omega) hnp eX2_chain_63 ?_
            refine V_bipush (v := 60) (by decide) eX2_chain_64 ?_
            refine V_if_icmpne eX2_chain_66 (fun c66 => ?_) (fun c66 => ?_)
            · have hne : np ≠ 60 := fun e => c66 (by rw [e]; rfl)
              have hta : sn S (550 + q) = ta := sn_of hta0 (by omega)
              have htb : sn S (610 + q) = tb := sn_of htb0 (by omega)
              refine V_aload0 eX2_chain_72 rfl ?_
              refine M_ga mb rfl eX2_chain_73 fl_X2_8_2 ?_
              refine V_sipush (v := 180) (by decide) eX2_chain_76 ?_
              refine V_aload0 eX2_chain_79 rfl ?_
              refine M_ga mb rfl eX2_chain_80 fl_X2_8_2 ?_
              refine V_sipush (v := 550) (by decide) eX2_chain_83 ?_
              refine V_iload1 eX2_chain_86 ?_
              refine V_iadd eX2_chain_87 ?_
              refine M_sl (n := (550 + q)) mb (zadd rfl rfl) (by omega) hta0 eX2_chain_88 ?_
              refine V_iadd eX2_chain_89 ?_
              refine M_sl (n := (180 + ta)) mb (zadd rfl rfl) (by omega) rfl eX2_chain_90 ?_
              refine V_istore4 rfl eX2_chain_91 rfl ?_
              refine V_aload0 eX2_chain_93 rfl ?_
              refine M_ga mb rfl eX2_chain_94 fl_X2_8_2 ?_
              refine V_sipush (v := 180) (by decide) eX2_chain_97 ?_
              refine V_aload0 eX2_chain_100 rfl ?_
              refine M_ga mb rfl eX2_chain_101 fl_X2_8_2 ?_
              refine V_sipush (v := 610) (by decide) eX2_chain_104 ?_
              refine V_iload1 eX2_chain_107 ?_
              refine V_iadd eX2_chain_108 ?_
              refine M_sl (n := (610 + q)) mb (zadd rfl rfl) (by omega) htb0 eX2_chain_109 ?_
              refine V_iadd eX2_chain_110 ?_
              refine M_sl (n := (180 + tb)) mb (zadd rfl rfl) (by omega) rfl eX2_chain_111 ?_
              refine V_istore5 rfl eX2_chain_112 rfl ?_
              refine V_aload0 eX2_chain_114 rfl ?_
              refine V_iconst (v := 2) (by decide) eX2_chain_115 ?_
              refine V_iload1 eX2_chain_116 ?_
              refine V_aload0 eX2_chain_117 rfl ?_
              refine M_ga mb rfl eX2_chain_118 fl_X2_8_2 ?_
              refine V_sipush (v := 550) (by decide) eX2_chain_121 ?_
              refine V_iload1 eX2_chain_124 ?_
              refine V_iadd eX2_chain_125 ?_
              refine M_sl (n := (550 + q)) mb (zadd rfl rfl) (by omega) hta0 eX2_chain_126 ?_
              refine V_aload0 eX2_chain_127 rfl ?_
              refine M_ga mb rfl eX2_chain_128 fl_X2_8_2 ?_
              refine V_sipush (v := 610) (by decide) eX2_chain_131 ?_
              refine V_iload1 eX2_chain_134 ?_
              refine V_iadd eX2_chain_135 ?_
              refine M_sl (n := (610 + q)) mb (zadd rfl rfl) (by omega) htb0 eX2_chain_136 ?_
              refine V_aload0 eX2_chain_137 rfl ?_
              refine M_ga mb rfl eX2_chain_138 fl_X2_8_2 ?_
              refine V_sipush (v := 670) (by decide) eX2_chain_141 ?_
              refine V_iload1 eX2_chain_144 ?_
              refine V_iadd eX2_chain_145 ?_
              refine M_sl (n := (670 + q)) mb (zadd rfl rfl) (by omega) rfl eX2_chain_146 ?_
              refine V_iconst (v := -1) (by decide) eX2_chain_147 ?_
              refine M_call mb eX2_chain_148 lmX2_paper q2111 q2113 rfl qs66 (c_paper mb _ _ _ _ _ _ hnp (by omega)) rfl rfl rfl rfl ?_
              rw [show (o_paper S 2 (nI q) (nI ta) (nI tb) (S (670 + q)) (-1)).1 = nI np from hnp]
              obtain ⟨S_1, hS_1⟩ : ∃ T, T = (o_paper S 2 (nI q) (nI ta) (nI tb) (S (670 + q)) (-1)).2 := ⟨_, rfl⟩
              rw [← hS_1]
              have hfr0 : ∀ j, (j < 2 ∨ 2 < j ∧ j < 370 ∨ 850 ≤ j) → S_1 j = S j := fun j hj => by rw [hS_1]; exact paper_fr hnp (by omega) hj
              refine V_istore6 rfl eX2_chain_151 rfl ?_
              refine V_aload0 eX2_chain_153 rfl ?_
              refine M_ga mb rfl eX2_chain_154 fl_X2_8_2 ?_
              refine V_sipush (v := 850) (by decide) eX2_chain_157 ?_
              refine V_iload6 eX2_chain_160 ?_
              refine V_iadd eX2_chain_162 ?_
              refine V_iconst (v := 0) (by decide) eX2_chain_163 ?_
              refine M_ss (n := (850 + np)) mb (zadd rfl rfl) (by omega) eX2_chain_164 ?_
              obtain ⟨S_2, hS_2⟩ : ∃ T, T = va_up S_1 (850 + np) (0 : Int32) := ⟨_, rfl⟩
              rw [← hS_2]
              refine V_iconst (v := 0) (by decide) eX2_chain_165 ?_
              refine V_istore7 rfl eX2_chain_166 rfl ?_
              refine V_iconst (v := 1) (by decide) eX2_chain_168 ?_
              refine V_istore8 rfl eX2_chain_169 rfl ?_
              have hF0 : ∀ j, (j < 850 ∨ 970 ≤ j ∧ j < 4700 ∨ 9620 ≤ j) → S_2 j = S_1 j := fun j hj => by rw [hS_2, va_up_ne _ _ (by omega)]
              have hC0 : S_2 (850 + np) = nI 0 := by rw [hS_2]; exact va_up_self _ _ _
              obtain ⟨z0, hz0, hz4⟩ := hsz x (by omega)
              have hzz : S_1 (204 + x) = nI z0 ∧ z0 ≤ 40 ∧ x < 4 := ⟨(hfr0 _ (by omega)).trans hz0, hz4, by omega⟩
              have hne2 : np < 60 := by omega
              refine V.le (zle_c (zle_n (zle_c (zle_c (zle_c (zle_c (zle_c (zle_c (zle_c (zle_n (zle_n zle_0))))))))))) (zwl (P := fun n171 => ∀ q171 : Int32 × Int32 × (Nat → Int32), zwh (K_chain_171 S np x y ta tb) zBIG ((0 : Int32), (1 : Int32), S_2) = zwh (K_chain_171 S np x y ta tb) n171 q171 → (chI S_1 np q171) → (chM q171 ≤ n171) → V w mX2_chain cX2_chain 4 0 0 (ms h A B F q171.2.2) 171 [some (.ref m), none, some (.int (nI x)), some (.int (nI y)), some (.int (S (180 + ta))), some (.int (S (180 + tb))), some (.int (nI np)), some (.int q171.1), some (.int q171.2.1), none, none] [] _) (fun n171 ih171 q171 hR171 hI hM => ?_) zBIG ((0 : Int32), (1 : Int32), S_2) rfl ⟨⟨0, rfl, by omega, hC0, fun j hj => absurd hj (by omega)⟩, hF0⟩ (chM_0 _))
              obtain ⟨⟨k, hk1, hk2, hk3, hk4⟩, hF⟩ := id hI
              have hkc : q171.1.toNatClampNeg = k := by rw [hk1]; exact nI_clamp (by omega)
              obtain ⟨z, hz0, hz4⟩ := hsz x (by omega)
              have hf : ∀ j, (j < 2 ∨ 2 < j ∧ j < 370 ∨ 970 ≤ j ∧ j < 4700 ∨ 9620 ≤ j) → q171.2.2 j = S j := fun j hj => (hF j (by omega)).trans (hfr0 j (by omega))
              have hz1 : q171.2.2 (204 + x) = nI z := (hf _ (by omega)).trans hz0
              rw [hk1]
              refine V_iload8 eX2_chain_171 ?_
              refine V_ifeq eX2_chain_173 (fun c173 => ?_) (fun c173 => ?_)
              · have hK171 : K_chain_171 S np x y ta tb q171 = none := by simp only [K_chain_171, hqc, hxc, hyc, hta, htb, hkc, if_pos c173]
                have hq171 : q171 = zwh (K_chain_171 S np x y ta tb) zBIG ((0 : Int32), (1 : Int32), S_2) := (hR171.trans (zwh_n hK171)).symm
                refine V_iload6 eX2_chain_392 ?_
                have hE : ((nI np), q171.2.2) = o_chain S np (nI q) (nI x) (nI y) := by simp only [o_chain, ← hS_1, ← hS_2, ← hq171, hqc, hxc, hyc, hta, htb, hkc, if_neg c6, if_neg c13, if_neg c20, if_neg c36, if_pos c52, if_neg c66]
                exact V_ireturn eX2_chain_394 rfl (by rw [← hE]; exact ⟨rfl, rfl⟩)
              · have hzs : sn q171.2.2 (204 + x) = z := sn_of hz1 (by omega)
                refine V_iload7 eX2_chain_176 ?_
                refine V_aload0 eX2_chain_178 rfl ?_
                refine M_ga mb rfl eX2_chain_179 fl_X2_8_2 ?_
                refine V_sipush (v := 204) (by decide) eX2_chain_182 ?_
                refine V_iload2 eX2_chain_185 ?_
                refine V_iadd eX2_chain_186 ?_
                refine M_sl (n := (204 + x)) mb (zadd rfl rfl) (by omega) hz1 eX2_chain_187 ?_
                refine V_if_icmpge eX2_chain_188 (fun c188 => ?_) (fun c188 => ?_)
                · refine V_iconst (v := -1) (by decide) eX2_chain_210 ?_
                  refine V_istore9 rfl eX2_chain_211 rfl ?_
                  refine V_iload9 eX2_chain_213 ?_
                  refine C0_static eX2_chain_215 lmX2_isCell q1963 q1964 (c_isCell _ _) rfl rfl rfl rfl ?_
                  refine V_ifeq eX2_chain_218 (fun c218 => ?_) (fun c218 => absurd c218 (fun q => q (by decide)))
                  refine V_iconst (v := 0) (by decide) eX2_chain_278 ?_
                  refine V_istore10 rfl eX2_chain_279 rfl ?_
                  refine V_iload10 eX2_chain_281 ?_
                  refine V_ifeq eX2_chain_283 (fun c283 => ?_) (fun c283 => absurd c283 (by decide))
                  refine V_iload10 eX2_chain_347 ?_
                  refine V_ifeq eX2_chain_349 (fun c349 => ?_) (fun c349 => absurd c349 (by decide))
                  refine V_iconst (v := 0) (by decide) eX2_chain_363 ?_
                  refine V_istore8 rfl eX2_chain_364 rfl ?_
                  refine V_aload0 eX2_chain_366 rfl ?_
                  refine M_ga mb rfl eX2_chain_367 fl_X2_8_2 ?_
                  refine V_sipush (v := 910) (by decide) eX2_chain_370 ?_
                  refine V_iload6 eX2_chain_373 ?_
                  refine V_iadd eX2_chain_375 ?_
                  refine V_iload10 eX2_chain_376 ?_
                  refine V_ifeq eX2_chain_378 (fun c378 => ?_) (fun c378 => absurd c378 (by decide))
                  refine V_iload7 eX2_chain_386 ?_
                  refine M_ss (n := (910 + np)) mb (zadd rfl rfl) (by omega) eX2_chain_388 ?_
                  obtain ⟨S_3, hS_3⟩ : ∃ T, T = va_up q171.2.2 (910 + np) (nI k) := ⟨_, rfl⟩
                  rw [← hS_3]
                  refine V_goto eX2_chain_389 ?_
                  have hK171 : K_chain_171 S np x y ta tb q171 = some ((nI k), (0 : Int32), S_3) := by simp only [K_chain_171, ← hS_3, hqc, hxc, hyc, hta, htb, hkc, hzs, if_neg c173, if_pos c188]
                  obtain ⟨n171, rfl⟩ : ∃ k, n171 = k + 1 := ⟨n171 - 1, by have := (ch_K hne2 hzz hI hK171).2; omega⟩
                  exact V.le (zle_c (zle_n (zle_c (zle_c (zle_c (zle_c (zle_c (zle_c (zle_c (zle_n (zle_n zle_0))))))))))) (ih171 n171 rfl ((nI k), (0 : Int32), S_3) (hR171.trans (zwh_s hK171))  (ch_K hne2 hzz hI hK171).1 (Nat.le_of_lt_succ (Nat.lt_of_lt_of_le (ch_K hne2 hzz hI hK171).2 hM)))
                · refine V_aload0 eX2_chain_191 rfl ?_
                  refine M_ga mb rfl eX2_chain_192 fl_X2_8_2 ?_
                  refine V_sipush (v := 208) (by decide) eX2_chain_195 ?_
                  refine V_bipush (v := 40) (by decide) eX2_chain_198 ?_
                  refine V_iload2 eX2_chain_200 ?_
                  refine V_imul eX2_chain_201 ?_
                  refine V_iadd eX2_chain_202 ?_
                  refine V_iload7 eX2_chain_203 ?_
                  refine V_iadd eX2_chain_205 ?_
                  refine M_sl (n := ((208 + (40 * x)) + k)) mb (zadd (zadd rfl (zmul rfl rfl)) rfl) (by omega) rfl eX2_chain_206 ?_
                  refine V_goto eX2_chain_207 ?_
                  refine V_istore9 rfl eX2_chain_211 rfl ?_
                  refine V_iload9 eX2_chain_213 ?_
                  refine C0_static eX2_chain_215 lmX2_isCell q1963 q1964 (c_isCell _ _) rfl rfl rfl rfl ?_
                  refine V_ifeq eX2_chain_218 (fun c218 => ?_) (fun c218 => ?_)
                  · refine V_iconst (v := 0) (by decide) eX2_chain_278 ?_
                    refine V_istore10 rfl eX2_chain_279 rfl ?_
                    refine V_iload10 eX2_chain_281 ?_
                    refine V_ifeq eX2_chain_283 (fun c283 => ?_) (fun c283 => absurd c283 (by decide))
                    refine V_iload10 eX2_chain_347 ?_
                    refine V_ifeq eX2_chain_349 (fun c349 => ?_) (fun c349 => absurd c349 (by decide))
                    refine V_iconst (v := 0) (by decide) eX2_chain_363 ?_
                    refine V_istore8 rfl eX2_chain_364 rfl ?_
                    refine V_aload0 eX2_chain_366 rfl ?_
                    refine M_ga mb rfl eX2_chain_367 fl_X2_8_2 ?_
                    refine V_sipush (v := 910) (by decide) eX2_chain_370 ?_
                    refine V_iload6 eX2_chain_373 ?_
                    refine V_iadd eX2_chain_375 ?_
                    refine V_iload10 eX2_chain_376 ?_
                    refine V_ifeq eX2_chain_378 (fun c378 => ?_) (fun c378 => absurd c378 (by decide))
                    refine V_iload7 eX2_chain_386 ?_
                    refine M_ss (n := (910 + np)) mb (zadd rfl rfl) (by omega) eX2_chain_388 ?_
                    obtain ⟨S_4, hS_4⟩ : ∃ T, T = va_up q171.2.2 (910 + np) (nI k) := ⟨_, rfl⟩
                    rw [← hS_4]
                    refine V_goto eX2_chain_389 ?_
                    have hK171 : K_chain_171 S np x y ta tb q171 = some ((nI k), (0 : Int32), S_4) := by simp only [K_chain_171, ← hS_4, hqc, hxc, hyc, hta, htb, hkc, hzs, if_neg c173, if_neg c188, if_pos c218]
                    obtain ⟨n171, rfl⟩ : ∃ k, n171 = k + 1 := ⟨n171 - 1, by have := (ch_K hne2 hzz hI hK171).2; omega⟩
                    exact V.le (zle_c (zle_n (zle_c (zle_c (zle_c (zle_c (zle_c (zle_c (zle_c (zle_n (zle_n zle_0))))))))))) (ih171 n171 rfl ((nI k), (0 : Int32), S_4) (hR171.trans (zwh_s hK171))  (ch_K hne2 hzz hI hK171).1 (Nat.le_of_lt_succ (Nat.lt_of_lt_of_le (ch_K hne2 hzz hI hK171).2 hM)))
                  · obtain ⟨c, hc79, hce⟩ := zinN (m := 79) c218 rfl (by decide)
                    have hcc : ((q171.2.2 ((208 + (40 * x)) + k))).toNatClampNeg = c := by rw [hce]; exact nI_clamp (by omega)
                    rw [hce]
                    have hkz : k < z := nnle c188 (by omega) (by omega)
                    refine V_iload7 eX2_chain_221 ?_
                    refine V_ifne eX2_chain_223 (fun c223 => ?_) (fun c223 => ?_)
                    · obtain ⟨k1, rfl⟩ : ∃ k1, k = k1 + 1 := ⟨k - 1, by have : k ≠ 0 := fun e => c223 (by rw [e]; rfl); omega⟩
                      obtain ⟨c1, hp1, hp8⟩ := hk4 k1 (by omega)
                      have hkk : k1 + 1 - 1 = k1 := by omega
                      have hps : sn q171.2.2 (4700 + 41 * np + k1) = c1 := sn_of hp1 (by omega)
                      refine V_iload9 eX2_chain_236 ?_
                      refine V_aload0 eX2_chain_238 rfl ?_
                      refine M_ga mb rfl eX2_chain_239 fl_X2_8_2 ?_
                      refine V_sipush (v := 4700) (by decide) eX2_chain_242 ?_
                      refine V_bipush (v := 41) (by decide) eX2_chain_245 ?_
                      refine V_iload6 eX2_chain_247 ?_
                      refine V_imul eX2_chain_249 ?_
                      refine V_iadd eX2_chain_250 ?_
                      refine V_iload7 eX2_chain_251 ?_
                      refine V_iadd eX2_chain_253 ?_
                      refine V_iconst (v := 1) (by decide) eX2_chain_254 ?_
                      refine V_isub eX2_chain_255 ?_
                      refine M_sl (n := ((4700 + (41 * np)) + k1)) mb (zsubm (n := ((4700 + (41 * np)) + k1)) (m := 1) ((show _ = nI ((4700 + (41 * np)) + (k1 + 1)) from zadd (zadd rfl (zmul rfl rfl)) rfl).trans (congrArg nI (by omega))) rfl) (by omega) hp1 eX2_chain_256 ?_
                      refine C0_static eX2_chain_257 lmX2_isBeside q2130 q2131 (c_isBeside _ _ _) rfl rfl rfl rfl ?_
                      refine V_ifeq eX2_chain_260 (fun c260 => ?_) (fun c260 => ?_)
                      · refine V_iconst (v := 0) (by decide) eX2_chain_278 ?_
                        refine V_istore10 rfl eX2_chain_279 rfl ?_
                        refine V_iload10 eX2_chain_281 ?_
                        refine V_ifeq eX2_chain_283 (fun c283 => ?_) (fun c283 => absurd c283 (by decide))
                        refine V_iload10 eX2_chain_347 ?_
                        refine V_ifeq eX2_chain_349 (fun c349 => ?_) (fun c349 => absurd c349 (by decide))
                        refine V_iconst (v := 0) (by decide) eX2_chain_363 ?_
                        refine V_istore8 rfl eX2_chain_364 rfl ?_
                        refine V_aload0 eX2_chain_366 rfl ?_
                        refine M_ga mb rfl eX2_chain_367 fl_X2_8_2 ?_
                        refine V_sipush (v := 910) (by decide) eX2_chain_370 ?_
                        refine V_iload6 eX2_chain_373 ?_
                        refine V_iadd eX2_chain_375 ?_
                        refine V_iload10 eX2_chain_376 ?_
                        refine V_ifeq eX2_chain_378 (fun c378 => ?_) (fun c378 => absurd c378 (by decide))
                        refine V_iload7 eX2_chain_386 ?_
                        refine M_ss (n := (910 + np)) mb (zadd rfl rfl) (by omega) eX2_chain_388 ?_
                        obtain ⟨S_5, hS_5⟩ : ∃ T, T = va_up q171.2.2 (910 + np) (nI (k1 + 1)) := ⟨_, rfl⟩
                        rw [← hS_5]
                        refine V_goto eX2_chain_389 ?_
                        have hK171 : K_chain_171 S np x y ta tb q171 = some ((nI (k1 + 1)), (0 : Int32), S_5) := by simp only [K_chain_171, ← hS_5, hqc, hxc, hyc, hta, htb, hkc, hzs, hcc, hkk, hps, if_neg c173, if_neg c188, if_neg c218, if_neg c223, if_pos c260]
                        obtain ⟨n171, rfl⟩ : ∃ k, n171 = k + 1 := ⟨n171 - 1, by have := (ch_K hne2 hzz hI hK171).2; omega⟩
                        exact V.le (zle_c (zle_n (zle_c (zle_c (zle_c (zle_c (zle_c (zle_c (zle_c (zle_n (zle_n zle_0))))))))))) (ih171 n171 rfl ((nI (k1 + 1)), (0 : Int32), S_5) (hR171.trans (zwh_s hK171))  (ch_K hne2 hzz hI hK171).1 (Nat.le_of_lt_succ (Nat.lt_of_lt_of_le (ch_K hne2 hzz hI hK171).2 hM)))
                      · refine V_aload0 eX2_chain_263 rfl ?_
                        refine V_iload6 eX2_chain_264 ?_
                        refine V_iload9 eX2_chain_266 ?_
                        refine M_call mb eX2_chain_268 lmX2_isInWay q2133 q2135 rfl qs69 (c_isInWay mb (p := np) (wl := k1 + 1) (by omega) hk3 (by omega)) rfl rfl rfl rfl ?_
                        refine V_ifne eX2_chain_271 (fun c271 => ?_) (fun c271 => ?_)
                        · refine V_iconst (v := 0) (by decide) eX2_chain_278 ?_
                          refine V_istore10 rfl eX2_chain_279 rfl ?_
                          refine V_iload10 eX2_chain_281 ?_
                          refine V_ifeq eX2_chain_283 (fun c283 => ?_) (fun c283 => absurd c283 (by decide))
                          refine V_iload10 eX2_chain_347 ?_
                          refine V_ifeq eX2_chain_349 (fun c349 => ?_) (fun c349 => absurd c349 (by decide))
                          refine V_iconst (v := 0) (by decide) eX2_chain_363 ?_
                          refine V_istore8 rfl eX2_chain_364 rfl ?_
                          refine V_aload0 eX2_chain_366 rfl ?_
                          refine M_ga mb rfl eX2_chain_367 fl_X2_8_2 ?_
                          refine V_sipush (v := 910) (by decide) eX2_chain_370 ?_
                          refine V_iload6 eX2_chain_373 ?_
                          refine V_iadd eX2_chain_375 ?_
                          refine V_iload10 eX2_chain_376 ?_
                          refine V_ifeq eX2_chain_378 (fun c378 => ?_) (fun c378 => absurd c378 (by decide))
                          refine V_iload7 eX2_chain_386 ?_
                          refine M_ss (n := (910 + np)) mb (zadd rfl rfl) (by omega) eX2_chain_388 ?_
                          obtain ⟨S_6, hS_6⟩ : ∃ T, T = va_up q171.2.2 (910 + np) (nI (k1 + 1)) := ⟨_, rfl⟩
                          rw [← hS_6]
                          refine V_goto eX2_chain_389 ?_
                          have hK171 : K_chain_171 S np x y ta tb q171 = some ((nI (k1 + 1)), (0 : Int32), S_6) := by simp only [K_chain_171, ← hS_6, hqc, hxc, hyc, hta, htb, hkc, hzs, hcc, hkk, hps, if_neg c173, if_neg c188, if_neg c218, if_neg c223, if_neg c260, if_neg c271]
                          obtain ⟨n171, rfl⟩ : ∃ k, n171 = k + 1 := ⟨n171 - 1, by have := (ch_K hne2 hzz hI hK171).2; omega⟩
                          exact V.le (zle_c (zle_n (zle_c (zle_c (zle_c (zle_c (zle_c (zle_c (zle_c (zle_n (zle_n zle_0))))))))))) (ih171 n171 rfl ((nI (k1 + 1)), (0 : Int32), S_6) (hR171.trans (zwh_s hK171))  (ch_K hne2 hzz hI hK171).1 (Nat.le_of_lt_succ (Nat.lt_of_lt_of_le (ch_K hne2 hzz hI hK171).2 hM)))
                        · refine V_iconst (v := 1) (by decide) eX2_chain_274 ?_
                          refine V_goto eX2_chain_275 ?_
                          refine V_istore10 rfl eX2_chain_279 rfl ?_
                          refine V_iload10 eX2_chain_281 ?_
                          refine V_ifeq eX2_chain_283 (fun c283 => absurd c283 (by decide)) (fun c283 => ?_)
                          refine V_aload0 eX2_chain_286 rfl ?_
                          refine M_ga mb rfl eX2_chain_287 fl_X2_8_2 ?_
                          refine V_sipush (v := 4700) (by decide) eX2_chain_290 ?_
                          refine V_bipush (v := 41) (by decide) eX2_chain_293 ?_
                          refine V_iload6 eX2_chain_295 ?_
                          refine V_imul eX2_chain_297 ?_
                          refine V_iadd eX2_chain_298 ?_
                          refine V_iload7 eX2_chain_299 ?_
                          refine V_iadd eX2_chain_301 ?_
                          refine V_iload9 eX2_chain_302 ?_
                          refine M_ss (n := ((4700 + (41 * np)) + (k1 + 1))) mb (zadd (zadd rfl (zmul rfl rfl)) rfl) (by omega) eX2_chain_304 ?_
                          obtain ⟨S_7, hS_7⟩ : ∃ T, T = va_up q171.2.2 ((4700 + (41 * np)) + (k1 + 1)) (nI c) := ⟨_, rfl⟩
                          rw [← hS_7]
                          refine V_aload0 eX2_chain_305 rfl ?_
                          refine M_ga mb rfl eX2_chain_306 fl_X2_8_2 ?_
                          refine V_sipush (v := 7160) (by decide) eX2_chain_309 ?_
                          refine V_bipush (v := 41) (by decide) eX2_chain_312 ?_
                          refine V_iload6 eX2_chain_314 ?_
                          refine V_imul eX2_chain_316 ?_
                          refine V_iadd eX2_chain_317 ?_
                          refine V_iload7 eX2_chain_318 ?_
                          refine V_iadd eX2_chain_320 ?_
                          have lv0 : S_7 (4700 + 41 * np + (k1 + 1)) = nI c := by rw [hS_7]; exact va_up_self _ _ _
                          have lv1 : ∀ j0, (k1 + 1) = j0 + 1 → ∃ c1, S_7 (4700 + 41 * np + j0) = nI c1 ∧ c1 < 80 := fun j hj => by
                            rw [hS_7, va_up_ne _ _ (by omega)]; exact hk4 j (by omega)
                          have lvz : ∀ c, c < 4 → ∃ z, S_7 (204 + c) = nI z ∧ z ≤ 40 := fun c hc => by
                            obtain ⟨z, h1, h2⟩ := hsz c hc
                            exact ⟨z, by rw [hS_7, va_up_ne _ _ (by omega)]; exact (hf _ (by omega)).trans h1, h2⟩
                          refine V_aload0 eX2_chain_321 rfl ?_
                          refine V_iload6 eX2_chain_322 ?_
                          refine V_iload7 eX2_chain_324 ?_
                          refine V_iload3 eX2_chain_326 ?_
                          refine M_call mb eX2_chain_327 lmX2_levelOf q2141 q2143 rfl qs71 (c_levelOf mb np (k1 + 1) y (by omega) (by omega) (by omega) (c0 := c) lv0 (by omega) lv1 lvz) rfl rfl rfl rfl ?_
                          refine M_ss (n := ((7160 + (41 * np)) + (k1 + 1))) mb (zadd (zadd rfl (zmul rfl rfl)) rfl) (by omega) eX2_chain_330 ?_
                          obtain ⟨S_8, hS_8⟩ : ∃ T, T = va_up S_7 ((7160 + (41 * np)) + (k1 + 1)) (o_levelOf S_7 np (k1 + 1) y c) := ⟨_, rfl⟩
                          rw [← hS_8]
                          refine V_iincN7 rfl eX2_chain_331 rfl ?_
                          refine V_aload0 eX2_chain_334 rfl ?_
                          refine M_ga mb rfl eX2_chain_335 fl_X2_8_2 ?_
                          refine V_sipush (v := 850) (by decide) eX2_chain_338 ?_
                          refine V_iload6 eX2_chain_341 ?_
                          refine V_iadd eX2_chain_343 ?_
                          refine V_iload7 eX2_chain_344 ?_
                          refine M_ss (n := (850 + np)) mb (zadd rfl rfl) (by omega) eX2_chain_346 ?_
                          obtain ⟨S_9, hS_9⟩ : ∃ T, T = va_up S_8 (850 + np) (nI ((k1 + 1) + 1)) := ⟨_, rfl⟩
                          rw [← hS_9]
                          refine V_iload10 eX2_chain_347 ?_
                          refine V_ifeq eX2_chain_349 (fun c349 => absurd c349 (by decide)) (fun c349 => ?_)
                          refine V_iload9 eX2_chain_352 ?_
                          refine V_iload5 eX2_chain_354 ?_
                          refine V_if_icmpeq eX2_chain_356 (fun c356 => ?_) (fun c356 => ?_)
                          · refine V_iconst (v := 0) (by decide) eX2_chain_363 ?_
                            refine V_istore8 rfl eX2_chain_364 rfl ?_
                            refine V_aload0 eX2_chain_366 rfl ?_
                            refine M_ga mb rfl eX2_chain_367 fl_X2_8_2 ?_
                            refine V_sipush (v := 910) (by decide) eX2_chain_370 ?_
                            refine V_iload6 eX2_chain_373 ?_
                            refine V_iadd eX2_chain_375 ?_
                            refine V_iload10 eX2_chain_376 ?_
                            refine V_ifeq eX2_chain_378 (fun c378 => absurd c378 (by decide)) (fun c378 => ?_)
                            refine V_bipush (v := -5) (by decide) eX2_chain_381 ?_
                            refine V_goto eX2_chain_383 ?_
                            refine M_ss (n := (910 + np)) mb (zadd rfl rfl) (by omega) eX2_chain_388 ?_
                            obtain ⟨S_10, hS_10⟩ : ∃ T, T = va_up S_9 (910 + np) (-5 : Int32) := ⟨_, rfl⟩
                            rw [← hS_10]
                            refine V_goto eX2_chain_389 ?_
                            have hK171 : K_chain_171 S np x y ta tb q171 = some ((nI ((k1 + 1) + 1)), (0 : Int32), S_10) := by simp only [K_chain_171, ← hS_7, ← hS_8, ← hS_9, ← hS_10, hqc, hxc, hyc, hta, htb, hkc, hzs, hcc, hkk, hps, if_neg c173, if_neg c188, if_neg c218, if_neg c223, if_neg c260, if_pos c271, if_pos c356]
                            obtain ⟨n171, rfl⟩ : ∃ k, n171 = k + 1 := ⟨n171 - 1, by have := (ch_K hne2 hzz hI hK171).2; omega⟩
                            exact V.le (zle_c (zle_n (zle_c (zle_c (zle_c (zle_c (zle_c (zle_c (zle_c (zle_n (zle_n zle_0))))))))))) (ih171 n171 rfl ((nI ((k1 + 1) + 1)), (0 : Int32), S_10) (hR171.trans (zwh_s hK171))  (ch_K hne2 hzz hI hK171).1 (Nat.le_of_lt_succ (Nat.lt_of_lt_of_le (ch_K hne2 hzz hI hK171).2 hM)))
                          · refine V_iconst (v := 1) (by decide) eX2_chain_359 ?_
                            refine V_goto eX2_chain_360 ?_
                            refine V_istore8 rfl eX2_chain_364 rfl ?_
                            refine V_aload0 eX2_chain_366 rfl ?_
                            refine M_ga mb rfl eX2_chain_367 fl_X2_8_2 ?_
                            refine V_sipush (v := 910) (by decide) eX2_chain_370 ?_
                            refine V_iload6 eX2_chain_373 ?_
                            refine V_iadd eX2_chain_375 ?_
                            refine V_iload10 eX2_chain_376 ?_
                            refine V_ifeq eX2_chain_378 (fun c378 => absurd c378 (by decide)) (fun c378 => ?_)
                            refine V_bipush (v := -5) (by decide) eX2_chain_381 ?_
                            refine V_goto eX2_chain_383 ?_
                            refine M_ss (n := (910 + np)) mb (zadd rfl rfl) (by omega) eX2_chain_388 ?_
                            obtain ⟨S_11, hS_11⟩ : ∃ T, T = va_up S_9 (910 + np) (-5 : Int32) := ⟨_, rfl⟩
                            rw [← hS_11]
                            refine V_goto eX2_chain_389 ?_
                            have hK171 : K_chain_171 S np x y ta tb q171 = some ((nI ((k1 + 1) + 1)), (1 : Int32), S_11) := by simp only [K_chain_171, ← hS_7, ← hS_8, ← hS_9, ← hS_11, hqc, hxc, hyc, hta, htb, hkc, hzs, hcc, hkk, hps, if_neg c173, if_neg c188, if_neg c218, if_neg c223, if_neg c260, if_pos c271, if_neg c356]
                            obtain ⟨n171, rfl⟩ : ∃ k, n171 = k + 1 := ⟨n171 - 1, by have := (ch_K hne2 hzz hI hK171).2; omega⟩
                            exact V.le (zle_c (zle_n (zle_c (zle_c (zle_c (zle_c (zle_c (zle_c (zle_c (zle_n (zle_n zle_0))))))))))) (ih171 n171 rfl ((nI ((k1 + 1) + 1)), (1 : Int32), S_11) (hR171.trans (zwh_s hK171))  (ch_K hne2 hzz hI hK171).1 (Nat.le_of_lt_succ (Nat.lt_of_lt_of_le (ch_K hne2 hzz hI hK171).2 hM)))
                    · refine V_iload9 eX2_chain_226 ?_
                      refine V_iload4 eX2_chain_228 ?_
                      refine V_if_icmpne eX2_chain_230 (fun c230 => ?_) (fun c230 => ?_)
                      · refine V_iconst (v := 0) (by decide) eX2_chain_278 ?_
                        refine V_istore10 rfl eX2_chain_279 rfl ?_
                        refine V_iload10 eX2_chain_281 ?_
                        refine V_ifeq eX2_chain_283 (fun c283 => ?_) (fun c283 => absurd c283 (by decide))
                        refine V_iload10 eX2_chain_347 ?_
                        refine V_ifeq eX2_chain_349 (fun c349 => ?_) (fun c349 => absurd c349 (by decide))
                        refine V_iconst (v := 0) (by decide) eX2_chain_363 ?_
                        refine V_istore8 rfl eX2_chain_364 rfl ?_
                        refine V_aload0 eX2_chain_366 rfl ?_
                        refine M_ga mb rfl eX2_chain_367 fl_X2_8_2 ?_
                        refine V_sipush (v := 910) (by decide) eX2_chain_370 ?_
                        refine V_iload6 eX2_chain_373 ?_
                        refine V_iadd eX2_chain_375 ?_
                        refine V_iload10 eX2_chain_376 ?_
                        refine V_ifeq eX2_chain_378 (fun c378 => ?_) (fun c378 => absurd c378 (by decide))
                        refine V_iload7 eX2_chain_386 ?_
                        refine M_ss (n := (910 + np)) mb (zadd rfl rfl) (by omega) eX2_chain_388 ?_
                        obtain ⟨S_12, hS_12⟩ : ∃ T, T = va_up q171.2.2 (910 + np) (nI k) := ⟨_, rfl⟩
                        rw [← hS_12]
                        refine V_goto eX2_chain_389 ?_
                        have hK171 : K_chain_171 S np x y ta tb q171 = some ((nI k), (0 : Int32), S_12) := by simp only [K_chain_171, ← hS_12, hqc, hxc, hyc, hta, htb, hkc, hzs, hcc, if_neg c173, if_neg c188, if_neg c218, if_pos c223, if_neg c230]
                        obtain ⟨n171, rfl⟩ : ∃ k, n171 = k + 1 := ⟨n171 - 1, by have := (ch_K hne2 hzz hI hK171).2; omega⟩
                        exact V.le (zle_c (zle_n (zle_c (zle_c (zle_c (zle_c (zle_c (zle_c (zle_c (zle_n (zle_n zle_0))))))))))) (ih171 n171 rfl ((nI k), (0 : Int32), S_12) (hR171.trans (zwh_s hK171))  (ch_K hne2 hzz hI hK171).1 (Nat.le_of_lt_succ (Nat.lt_of_lt_of_le (ch_K hne2 hzz hI hK171).2 hM)))
                      · refine V_goto eX2_chain_233 ?_
                        refine V_iconst (v := 1) (by decide) eX2_chain_274 ?_
                        refine V_goto eX2_chain_275 ?_
                        refine V_istore10 rfl eX2_chain_279 rfl ?_
                        refine V_iload10 eX2_chain_281 ?_
                        refine V_ifeq eX2_chain_283 (fun c283 => absurd c283 (by decide)) (fun c283 => ?_)
                        refine V_aload0 eX2_chain_286 rfl ?_
                        refine M_ga mb rfl eX2_chain_287 fl_X2_8_2 ?_
                        refine V_sipush (v := 4700) (by decide) eX2_chain_290 ?_
                        refine V_bipush (v := 41) (by decide) eX2_chain_293 ?_
                        refine V_iload6 eX2_chain_295 ?_
                        refine V_imul eX2_chain_297 ?_
                        refine V_iadd eX2_chain_298 ?_
                        refine V_iload7 eX2_chain_299 ?_
                        refine V_iadd eX2_chain_301 ?_
                        refine V_iload9 eX2_chain_302 ?_
                        refine M_ss (n := ((4700 + (41 * np)) + k)) mb (zadd (zadd rfl (zmul rfl rfl)) rfl) (by omega) eX2_chain_304 ?_
                        obtain ⟨S_13, hS_13⟩ : ∃ T, T = va_up q171.2.2 ((4700 + (41 * np)) + k) (nI c) := ⟨_, rfl⟩
                        rw [← hS_13]
                        refine V_aload0 eX2_chain_305 rfl ?_
                        refine M_ga mb rfl eX2_chain_306 fl_X2_8_2 ?_
                        refine V_sipush (v := 7160) (by decide) eX2_chain_309 ?_
                        refine V_bipush (v := 41) (by decide) eX2_chain_312 ?_
                        refine V_iload6 eX2_chain_314 ?_
                        refine V_imul eX2_chain_316 ?_
                        refine V_iadd eX2_chain_317 ?_
                        refine V_iload7 eX2_chain_318 ?_
                        refine V_iadd eX2_chain_320 ?_
                        have lv0 : S_13 (4700 + 41 * np + k) = nI c := by rw [hS_13]; exact va_up_self _ _ _
                        have lv1 : ∀ j0, k = j0 + 1 → ∃ c1, S_13 (4700 + 41 * np + j0) = nI c1 ∧ c1 < 80 := fun j hj => by
                          rw [hS_13, va_up_ne _ _ (by omega)]; exact hk4 j (by omega)
                        have lvz : ∀ c, c < 4 → ∃ z, S_13 (204 + c) = nI z ∧ z ≤ 40 := fun c hc => by
                          obtain ⟨z, h1, h2⟩ := hsz c hc
                          exact ⟨z, by rw [hS_13, va_up_ne _ _ (by omega)]; exact (hf _ (by omega)).trans h1, h2⟩
                        refine V_aload0 eX2_chain_321 rfl ?_
                        refine V_iload6 eX2_chain_322 ?_
                        refine V_iload7 eX2_chain_324 ?_
                        refine V_iload3 eX2_chain_326 ?_
                        refine M_call mb eX2_chain_327 lmX2_levelOf q2141 q2143 rfl qs71 (c_levelOf mb np k y (by omega) (by omega) (by omega) (c0 := c) lv0 (by omega) lv1 lvz) rfl rfl rfl rfl ?_
                        refine M_ss (n := ((7160 + (41 * np)) + k)) mb (zadd (zadd rfl (zmul rfl rfl)) rfl) (by omega) eX2_chain_330 ?_
                        obtain ⟨S_14, hS_14⟩ : ∃ T, T = va_up S_13 ((7160 + (41 * np)) + k) (o_levelOf S_13 np k y c) := ⟨_, rfl⟩
                        rw [← hS_14]
                        refine V_iincN7 rfl eX2_chain_331 rfl ?_
                        refine V_aload0 eX2_chain_334 rfl ?_
                        refine M_ga mb rfl eX2_chain_335 fl_X2_8_2 ?_
                        refine V_sipush (v := 850) (by decide) eX2_chain_338 ?_
                        refine V_iload6 eX2_chain_341 ?_
                        refine V_iadd eX2_chain_343 ?_
                        refine V_iload7 eX2_chain_344 ?_
                        refine M_ss (n := (850 + np)) mb (zadd rfl rfl) (by omega) eX2_chain_346 ?_
                        obtain ⟨S_15, hS_15⟩ : ∃ T, T = va_up S_14 (850 + np) (nI (k + 1)) := ⟨_, rfl⟩
                        rw [← hS_15]
                        refine V_iload10 eX2_chain_347 ?_
                        refine V_ifeq eX2_chain_349 (fun c349 => absurd c349 (by decide)) (fun c349 => ?_)
                        refine V_iload9 eX2_chain_352 ?_
                        refine V_iload5 eX2_chain_354 ?_
                        refine V_if_icmpeq eX2_chain_356 (fun c356 => ?_) (fun c356 => ?_)
                        · refine V_iconst (v := 0) (by decide) eX2_chain_363 ?_
                          refine V_istore8 rfl eX2_chain_364 rfl ?_
                          refine V_aload0 eX2_chain_366 rfl ?_
                          refine M_ga mb rfl eX2_chain_367 fl_X2_8_2 ?_
                          refine V_sipush (v := 910) (by decide) eX2_chain_370 ?_
                          refine V_iload6 eX2_chain_373 ?_
                          refine V_iadd eX2_chain_375 ?_
                          refine V_iload10 eX2_chain_376 ?_
                          refine V_ifeq eX2_chain_378 (fun c378 => absurd c378 (by decide)) (fun c378 => ?_)
                          refine V_bipush (v := -5) (by decide) eX2_chain_381 ?_
                          refine V_goto eX2_chain_383 ?_
                          refine M_ss (n := (910 + np)) mb (zadd rfl rfl) (by omega) eX2_chain_388 ?_
                          obtain ⟨S_16, hS_16⟩ : ∃ T, T = va_up S_15 (910 + np) (-5 : Int32) := ⟨_, rfl⟩
                          rw [← hS_16]
                          refine V_goto eX2_chain_389 ?_
                          have hK171 : K_chain_171 S np x y ta tb q171 = some ((nI (k + 1)), (0 : Int32), S_16) := by simp only [K_chain_171, ← hS_13, ← hS_14, ← hS_15, ← hS_16, hqc, hxc, hyc, hta, htb, hkc, hzs, hcc, if_neg c173, if_neg c188, if_neg c218, if_pos c223, if_pos c230, if_pos c356]
                          obtain ⟨n171, rfl⟩ : ∃ k, n171 = k + 1 := ⟨n171 - 1, by have := (ch_K hne2 hzz hI hK171).2; omega⟩
                          exact V.le (zle_c (zle_n (zle_c (zle_c (zle_c (zle_c (zle_c (zle_c (zle_c (zle_n (zle_n zle_0))))))))))) (ih171 n171 rfl ((nI (k + 1)), (0 : Int32), S_16) (hR171.trans (zwh_s hK171))  (ch_K hne2 hzz hI hK171).1 (Nat.le_of_lt_succ (Nat.lt_of_lt_of_le (ch_K hne2 hzz hI hK171).2 hM)))
                        · refine V_iconst (v := 1) (by decide) eX2_chain_359 ?_
                          refine V_goto eX2_chain_360 ?_
                          refine V_istore8 rfl eX2_chain_364 rfl ?_
                          refine V_aload0 eX2_chain_366 rfl ?_
                          refine M_ga mb rfl eX2_chain_367 fl_X2_8_2 ?_
                          refine V_sipush (v := 910) (by decide) eX2_chain_370 ?_
                          refine V_iload6 eX2_chain_373 ?_
                          refine V_iadd eX2_chain_375 ?_
                          refine V_iload10 eX2_chain_376 ?_
                          refine V_ifeq eX2_chain_378 (fun c378 => absurd c378 (by decide)) (fun c378 => ?_)
                          refine V_bipush (v := -5) (by decide) eX2_chain_381 ?_
                          refine V_goto eX2_chain_383 ?_
                          refine M_ss (n := (910 + np)) mb (zadd rfl rfl) (by omega) eX2_chain_388 ?_
                          obtain ⟨S_17, hS_17⟩ : ∃ T, T = va_up S_15 (910 + np) (-5 : Int32) := ⟨_, rfl⟩
                          rw [← hS_17]
                          refine V_goto eX2_chain_389 ?_
                          have hK171 : K_chain_171 S np x y ta tb q171 = some ((nI (k + 1)), (1 : Int32), S_17) := by simp only [K_chain_171, ← hS_13, ← hS_14, ← hS_15, ← hS_17, hqc, hxc, hyc, hta, htb, hkc, hzs, hcc, if_neg c173, if_neg c188, if_neg c218, if_pos c223, if_pos c230, if_neg c356]
                          obtain ⟨n171, rfl⟩ : ∃ k, n171 = k + 1 := ⟨n171 - 1, by have := (ch_K hne2 hzz hI hK171).2; omega⟩
                          exact V.le (zle_c (zle_n (zle_c (zle_c (zle_c (zle_c (zle_c (zle_c (zle_c (zle_n (zle_n zle_0))))))))))) (ih171 n171 rfl ((nI (k + 1)), (1 : Int32), S_17) (hR171.trans (zwh_s hK171))  (ch_K hne2 hzz hI hK171).1 (Nat.le_of_lt_succ (Nat.lt_of_lt_of_le (ch_K hne2 hzz hI hK171).2 hM)))
            · refine V_bipush (v := -4) (by decide) eX2_chain_69 ?_
              have hE : ((-4 : Int32), S) = o_chain S np (nI q) (nI x) (nI y) := by simp only [o_chain, hqc, hxc, hyc, if_neg c6, if_neg c13, if_neg c20, if_neg c36, if_pos c52, if_pos c66]
              exact V_ireturn eX2_chain_71 rfl (by rw [← hE]; exact ⟨rfl, rfl⟩)
          · refine V_bipush (v := -13) (by decide) eX2_chain_55 ?_
            have hE : ((-13 : Int32), S) = o_chain S np (nI q) (nI x) (nI y) := by simp only [o_chain, hqc, hxc, hyc, if_neg c6, if_neg c13, if_neg c20, if_neg c36, if_neg c52]
            exact V_ireturn eX2_chain_57 rfl (by rw [← hE]; exact ⟨rfl, rfl⟩)
        · refine V_bipush (v := -11) (by decide) eX2_chain_39 ?_
          have hE : ((-11 : Int32), S) = o_chain S np (nI q) (nI x) (nI y) := by simp only [o_chain, hqc, hxc, hyc, if_neg c6, if_neg c13, if_neg c20, if_pos c36]
          exact V_ireturn eX2_chain_41 rfl (by rw [← hE]; exact ⟨rfl, rfl⟩)
      · refine V_iconst (v := -1) (by decide) eX2_chain_23 ?_
        have hE : ((-1 : Int32), S) = o_chain S np (nI q) (nI x) ri := by simp only [o_chain, hqc, hxc, if_neg c6, if_neg c13, if_pos c20]
        exact V_ireturn eX2_chain_24 rfl (by rw [← hE]; exact ⟨rfl, rfl⟩)

