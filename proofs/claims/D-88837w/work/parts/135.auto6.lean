theorem zm1 {x : Int32} (h1 : -1 ≤ x) (h2 : ¬ x = -1) : ¬ x < 0 := by
  intro q
  have a := Int32.le_iff_toInt_le.mp h1
  have b := Int32.lt_iff_toInt_lt.mp q
  rw [show (-1 : Int32).toInt = -1 from by decide] at a
  rw [show (0 : Int32).toInt = 0 from by decide] at b
  exact h2 (Int32.toInt_inj.mp (by rw [show (-1 : Int32).toInt = -1 from by decide]; omega))
theorem tkc_le (x : Int32) (n : Nat) : tkc x n ≤ n := by
  have h1 : tkc x n ≤ nsum (fun _ => 1) n := nsum_le n (fun _ _ => zite1 _)
  rw [nsum_c1] at h1
  exact h1
def K_doesS_45 (S : Nat → Int32) (rec : Nat → Int32 → Int32 → Int32 → (Nat → Int32) → (Nat → Int32) → (Nat → Int32) → (Nat → Int32) × (Nat → Int32) × (Nat → Int32)) (n : Nat) (tk : Int32) (sv : Int32) (pr : Int32) (hh : Int32) : Nat → (Nat → Int32) × (Nat → Int32) × (Nat → Int32) → (Nat → Int32) × (Nat → Int32) × (Nat → Int32) := fun j q45 =>
    if (sv + (S (11470 + j))) ≤ pr then
      if ((tk >>> ((nI j) &&& 31)) &&& (1 : Int32)) = 0 then
        if hh < (pr + (S (11480 + j))) then
          (q45.1, q45.2.1, q45.2.2)
        else
          let t1 := va_up q45.2.1 n (nI j)
          let t2 := (rec (n + 1) (tk ||| ((1 : Int32) <<< ((nI j) &&& 31))) (sv + (S (11470 + j))) (pr + (S (11480 + j))) q45.1 t1 q45.2.2).1
          let t3 := (rec (n + 1) (tk ||| ((1 : Int32) <<< ((nI j) &&& 31))) (sv + (S (11470 + j))) (pr + (S (11480 + j))) q45.1 t1 q45.2.2).2.1
          let t4 := (rec (n + 1) (tk ||| ((1 : Int32) <<< ((nI j) &&& 31))) (sv + (S (11470 + j))) (pr + (S (11480 + j))) q45.1 t1 q45.2.2).2.2
          (t2, t3, t4)
      else
        (q45.1, q45.2.1, q45.2.2)
    else
      if ((tk >>> ((nI j) &&& 31)) &&& (1 : Int32)) = 0 then
        if hh < ((sv + (S (11470 + j))) + (S (11480 + j))) then
          (q45.1, q45.2.1, q45.2.2)
        else
          let t5 := va_up q45.2.1 n (nI j)
          let t6 := (rec (n + 1) (tk ||| ((1 : Int32) <<< ((nI j) &&& 31))) (sv + (S (11470 + j))) ((sv + (S (11470 + j))) + (S (11480 + j))) q45.1 t5 q45.2.2).1
          let t7 := (rec (n + 1) (tk ||| ((1 : Int32) <<< ((nI j) &&& 31))) (sv + (S (11470 + j))) ((sv + (S (11470 + j))) + (S (11480 + j))) q45.1 t5 q45.2.2).2.1
          let t8 := (rec (n + 1) (tk ||| ((1 : Int32) <<< ((nI j) &&& 31))) (sv + (S (11470 + j))) ((sv + (S (11470 + j))) + (S (11480 + j))) q45.1 t5 q45.2.2).2.2
          (t6, t7, t8)
      else
        (q45.1, q45.2.1, q45.2.2)
def K_doesS_16 (A : Nat → Nat → Int32) : Nat → (Nat → Int32) → (Nat → Int32) := fun k q16 =>
    let t1 := va_up q16 k ((A 11) k)
    t1
def o_doesS (S : Nat → Int32) (A : Nat → Nat → Int32) (F : Nat → Int32) (rec : Nat → Int32 → Int32 → Int32 → (Nat → Int32) → (Nat → Int32) → (Nat → Int32) → (Nat → Int32) × (Nat → Int32) × (Nat → Int32)) (nj : Nat) (n : Nat) (tk : Int32) (sv : Int32) (pr : Int32) (hh : Int32) : (Nat → Int32) × (Nat → Int32) × (Nat → Int32) :=
  if (nI n) ≤ (F 13) then
    let q45 := zfold (K_doesS_45 S rec n tk sv pr hh) nj (F, (A 11), (A 12))
    (q45.1, q45.2.1, q45.2.2)
  else
    let F_9 := va_up F 13 (nI n)
    let q16 := zfold (K_doesS_16 A) n (A 12)
    let q45 := zfold (K_doesS_45 S rec n tk sv pr hh) nj (F_9, (A 11), q16)
    (q45.1, q45.2.1, q45.2.2)
theorem c_doesS {w : Wd} {h : Hp} {m : Nat} {ad : Nat → Nat} {A : Nat → Nat → Int32} {B : Nat → Nat → Int64} {F S : Nat → Int32} (mb : MB h m ad) (n : Nat) (tk : Int32) (sv : Int32) (pr : Int32) (hh : Int32) {nj : Nat} (hnj : S 7 = nI nj) (hnj7 : nj ≤ 7) {d : Nat} (rec : Nat → Int32 → Int32 → Int32 → (Nat → Int32) → (Nat → Int32) → (Nat → Int32) → (Nat → Int32) × (Nat → Int32) × (Nat → Int32)) (IH : ∀ {n : Nat}, nj + 1 ≤ n + d → ∀ {tk : Int32}, tkc tk nj = n → ∀ (sv pr : Int32) {A : Nat → Nat → Int32} {B : Nat → Nat → Int64} {F : Nat → Int32}, Con w mX2_does cX2_does d 0 0 [.ref m, .int (nI n), .int tk, .int sv, .int pr, .int hh] (ms h A B F S) (Ru (ms h (va_up (va_up A 11 (rec n tk sv pr F (A 11) (A 12)).2.1) 12 (rec n tk sv pr F (A 11) (A 12)).2.2) B (rec n tk sv pr F (A 11) (A 12)).1 S))) (hd : nj + 1 ≤ n + (d + 1)) (hc : tkc tk nj = n) : Con w mX2_does cX2_does (d + 1) 0 0 [.ref m, .int (nI n), .int tk, .int sv, .int pr, .int hh] (ms h A B F S) (Ru (ms h (va_up (va_up A 11 (o_doesS S A F rec nj n tk sv pr hh).2.1) 12 (o_doesS S A F rec nj n tk sv pr hh).2.2) B (o_doesS S A F rec nj n tk sv pr hh).1 S)) := by
  refine Con.of (by decide +kernel) rfl rfl ?_
  show V w mX2_does cX2_does (d + 1) 0 0 _ 0 [some (.ref m), some (.int (nI n)), some (.int tk), some (.int sv), some (.int pr), some (.int hh), none, none, none] [] _
  rw [ms_extA (show A = (va_up (va_up A 11 (A 11)) 12 (A 12)) from by
    funext q
    by_cases e11 : q = 11
    · subst e11; rfl
    by_cases e12 : q = 12
    · subst e12; rfl
    simp only [va_up, if_neg e11, if_neg e12])]
  refine V_iload1 eX2_does_0 ?_
  refine V_aload0 eX2_does_1 rfl ?_
  refine M_gi mb (Or.inl rfl) rfl eX2_does_2 fl_X2_231_2 ?_
  refine V_if_icmple eX2_does_5 (fun c5 => ?_) (fun c5 => ?_)
  · refine V_iconst (v := 0) (by decide) eX2_does_42 ?_
    refine V_istore6 rfl eX2_does_43 rfl ?_
    refine V.le (zle_c (zle_c (zle_c (zle_c (zle_c (zle_c (zle_c (zle_n (zle_n zle_0))))))))) (zloop (P := fun j => ∀ q45 : (Nat → Int32) × (Nat → Int32) × (Nat → Int32), q45 = zfold (K_doesS_45 S rec n tk sv pr hh) j (F, (A 11), (A 12)) → V w mX2_does cX2_does (d + 1) 0 0 (ms h (va_up (va_up A 11 q45.2.1) 12 q45.2.2) B q45.1 S) 45 [some (.ref m), some (.int (nI n)), some (.int tk), some (.int sv), some (.int pr), some (.int hh), some (.int (nI j)), none, none] [] _) nj (fun j hj ih45 q45 hq45  => ?_) 0 (Nat.zero_le _) (F, (A 11), (A 12)) rfl )
    refine V_iload6 eX2_does_45 ?_
    refine V_aload0 eX2_does_47 rfl ?_
    refine M_ga mb rfl eX2_does_48 fl_X2_8_2 ?_
    refine V_bipush (v := 7) (by decide) eX2_does_51 ?_
    refine M_sl (n := 7) mb rfl (by omega) hnj eX2_does_53 ?_
    refine V_if_icmpge eX2_does_54 (fun c54 => ?_) (fun c54 => ?_)
    · have e45 : j = nj := by have := nle c54 (by omega) (by omega); omega
      rw [e45] at hq45
      have hE : (q45.1, q45.2.1, q45.2.2) = o_doesS S A F rec nj n tk sv pr hh := by simp only [o_doesS, ← hq45, if_pos c5]
      exact V_return (x := ()) eX2_does_149 rfl (by rw [← hE]; exact ⟨rfl, rfl⟩)
    · have hl45 : j < nj := by have := nnle c54 (by omega) (by omega); omega
      refine V_iload3 eX2_does_57 ?_
      refine V_aload0 eX2_does_58 rfl ?_
      refine M_ga mb rfl eX2_does_59 fl_X2_8_2 ?_
      refine V_sipush (v := 11470) (by decide) eX2_does_62 ?_
      refine V_iload6 eX2_does_65 ?_
      refine V_iadd eX2_does_67 ?_
      refine M_sl (n := (11470 + j)) mb (zadd rfl rfl) (by omega) rfl eX2_does_68 ?_
      refine V_iadd eX2_does_69 ?_
      refine V_istore7 rfl eX2_does_70 rfl ?_
      refine V_iload7 eX2_does_72 ?_
      refine V_iload4 eX2_does_74 ?_
      refine V_if_icmple eX2_does_76 (fun c76 => ?_) (fun c76 => ?_)
      · refine V_iload4 eX2_does_84 ?_
        refine V_aload0 eX2_does_86 rfl ?_
        refine M_ga mb rfl eX2_does_87 fl_X2_8_2 ?_
        refine V_sipush (v := 11480) (by decide) eX2_does_90 ?_
        refine V_iload6 eX2_does_93 ?_
        refine V_iadd eX2_does_95 ?_
        refine M_sl (n := (11480 + j)) mb (zadd rfl rfl) (by omega) rfl eX2_does_96 ?_
        refine V_iadd eX2_does_97 ?_
        refine V_istore8 rfl eX2_does_98 rfl ?_
        refine V_iload2 eX2_does_100 ?_
        refine V_iload6 eX2_does_101 ?_
        refine V_ishr eX2_does_103 ?_
        refine V_iconst (v := 1) (by decide) eX2_does_104 ?_
        refine V_iand eX2_does_105 ?_
        refine V_ifne eX2_does_106 (fun c106 => ?_) (fun c106 => ?_)
        · refine V_iincN6 rfl eX2_does_143 rfl ?_
          refine V_goto eX2_does_146 ?_
          exact V.le (zle_c (zle_c (zle_c (zle_c (zle_c (zle_c (zle_c (zle_n (zle_n zle_0))))))))) (ih45 hl45 (q45.1, q45.2.1, q45.2.2) (by rw [zfold_s (n := j), ← hq45]; simp only [K_doesS_45, if_pos c76, if_neg c106])  )
        · have hbit : bt tk j = false := by rw [bt_test tk (by omega)] at c106; exact bI_0.mp c106
          have hn6 := tkc_lt hl45 hbit
          refine V_iload8 eX2_does_109 ?_
          refine V_iload5 eX2_does_111 ?_
          refine V_if_icmpgt eX2_does_113 (fun c113 => ?_) (fun c113 => ?_)
          · refine V_iincN6 rfl eX2_does_143 rfl ?_
            refine V_goto eX2_does_146 ?_
            exact V.le (zle_c (zle_c (zle_c (zle_c (zle_c (zle_c (zle_c (zle_n (zle_n zle_0))))))))) (ih45 hl45 (q45.1, q45.2.1, q45.2.2) (by rw [zfold_s (n := j), ← hq45]; simp only [K_doesS_45, if_pos c76, if_pos c106, if_pos c113])  )
          · refine V_aload0 eX2_does_116 rfl ?_
            refine M_ga mb rfl eX2_does_117 fl_X2_26_2 ?_
            refine V_iload1 eX2_does_120 ?_
            refine V_iload6 eX2_does_121 ?_
            refine M_as (j := 11) (n := n) mb rfl (by decide) rfl (by show _ < _; first | decide | (simp only [mlen]; omega)) eX2_does_123 ?_
            obtain ⟨R_1, hR_1⟩ : ∃ T, T = va_up q45.2.1 n (nI j) := ⟨_, rfl⟩
            rw [ms_extA (show va_up (va_up (va_up A 11 q45.2.1) 12 q45.2.2) 11 (va_up ((va_up (va_up A 11 q45.2.1) 12 q45.2.2) 11) n (nI j)) = (va_up (va_up A 11 R_1) 12 q45.2.2) from by
                rw [hR_1]; funext q
                by_cases e11 : q = 11
                · subst e11; rfl
                by_cases e12 : q = 12
                · subst e12; rfl
                simp only [va_up, if_neg e11, if_neg e12])]
            refine V_aload0 eX2_does_124 rfl ?_
            refine V_iload1 eX2_does_125 ?_
            refine V_iconst (v := 1) (by decide) eX2_does_126 ?_
            refine V_iadd eX2_does_127 ?_
            refine V_iload2 eX2_does_128 ?_
            refine V_iconst (v := 1) (by decide) eX2_does_129 ?_
            refine V_iload6 eX2_does_130 ?_
            refine V_ishl eX2_does_132 ?_
            refine V_ior eX2_does_133 ?_
            refine V_iload7 eX2_does_134 ?_
            refine V_iload8 eX2_does_136 ?_
            refine V_iload5 eX2_does_138 ?_
            rw [show ((nI n) + (1 : Int32)) = nI (n + 1) from (zadd rfl rfl)]
            refine M_callU mb eX2_does_140 lmX2_does q2269 q2271 rfl qs85 (IH (n := (n + 1)) (by omega) (tk := (tk ||| ((1 : Int32) <<< ((nI j) &&& 31)))) (by rw [tkc_set hl45 (by omega) hbit]; omega) (sv + (S (11470 + j))) (pr + (S (11480 + j))) (A := (va_up (va_up A 11 R_1) 12 q45.2.2)) (B := B) (F := q45.1)) (zblt (by omega)) rfl rfl rfl ?_
            rw [show (va_up (va_up A 11 R_1) 12 q45.2.2) 11 = R_1 from rfl, show (va_up (va_up A 11 R_1) 12 q45.2.2) 12 = q45.2.2 from rfl]
            obtain ⟨F_2, hF_2⟩ : ∃ T, T = (rec (n + 1) (tk ||| ((1 : Int32) <<< ((nI j) &&& 31))) (sv + (S (11470 + j))) (pr + (S (11480 + j))) q45.1 R_1 q45.2.2).1 := ⟨_, rfl⟩
            obtain ⟨R_3, hR_3⟩ : ∃ T, T = (rec (n + 1) (tk ||| ((1 : Int32) <<< ((nI j) &&& 31))) (sv + (S (11470 + j))) (pr + (S (11480 + j))) q45.1 R_1 q45.2.2).2.1 := ⟨_, rfl⟩
            obtain ⟨R_4, hR_4⟩ : ∃ T, T = (rec (n + 1) (tk ||| ((1 : Int32) <<< ((nI j) &&& 31))) (sv + (S (11470 + j))) (pr + (S (11480 + j))) q45.1 R_1 q45.2.2).2.2 := ⟨_, rfl⟩
            rw [← hF_2]
            rw [ms_extA (show va_up (va_up (va_up (va_up A 11 R_1) 12 q45.2.2) 11 (rec (n + 1) (tk ||| ((1 : Int32) <<< ((nI j) &&& 31))) (sv + (S (11470 + j))) (pr + (S (11480 + j))) q45.1 R_1 q45.2.2).2.1) 12 (rec (n + 1) (tk ||| ((1 : Int32) <<< ((nI j) &&& 31))) (sv + (S (11470 + j))) (pr + (S (11480 + j))) q45.1 R_1 q45.2.2).2.2 = (va_up (va_up A 11 R_3) 12 R_4) from by
                rw [hR_3, hR_4]; funext q
                by_cases e11 : q = 11
                · subst e11; rfl
                by_cases e12 : q = 12
                · subst e12; rfl
                simp only [va_up, if_neg e11, if_neg e12])]
            refine V_iincN6 rfl eX2_does_143 rfl ?_
            refine V_goto eX2_does_146 ?_
            exact V.le (zle_c (zle_c (zle_c (zle_c (zle_c (zle_c (zle_c (zle_n (zle_n zle_0))))))))) (ih45 hl45 (F_2, R_3, R_4) (by rw [zfold_s (n := j), ← hq45]; simp only [K_doesS_45, ← hR_1, ← hF_2, ← hR_3, ← hR_4, if_pos c76, if_pos c106, if_neg c113])  )
      · refine V_iload7 eX2_does_79 ?_
        refine V_goto eX2_does_81 ?_
        refine V_aload0 eX2_does_86 rfl ?_
        refine M_ga mb rfl eX2_does_87 fl_X2_8_2 ?_
        refine V_sipush (v := 11480) (by decide) eX2_does_90 ?_
        refine V_iload6 eX2_does_93 ?_
        refine V_iadd eX2_does_95 ?_
        refine M_sl (n := (11480 + j)) mb (zadd rfl rfl) (by omega) rfl eX2_does_96 ?_
        refine V_iadd eX2_does_97 ?_
        refine V_istore8 rfl eX2_does_98 rfl ?_
        refine V_iload2 eX2_does_100 ?_
        refine V_iload6 eX2_does_101 ?_
        refine V_ishr eX2_does_103 ?_
        refine V_iconst (v := 1) (by decide) eX2_does_104 ?_
        refine V_iand eX2_does_105 ?_
        refine V_ifne eX2_does_106 (fun c106 => ?_) (fun c106 => ?_)
        · refine V_iincN6 rfl eX2_does_143 rfl ?_
          refine V_goto eX2_does_146 ?_
          exact V.le (zle_c (zle_c (zle_c (zle_c (zle_c (zle_c (zle_c (zle_n (zle_n zle_0))))))))) (ih45 hl45 (q45.1, q45.2.1, q45.2.2) (by rw [zfold_s (n := j), ← hq45]; simp only [K_doesS_45, if_neg c76, if_neg c106])  )
        · have hbit : bt tk j = false := by rw [bt_test tk (by omega)] at c106; exact bI_0.mp c106
          have hn6 := tkc_lt hl45 hbit
          refine V_iload8 eX2_does_109 ?_
          refine V_iload5 eX2_does_111 ?_
          refine V_if_icmpgt eX2_does_113 (fun c113 => ?_) (fun c113 => ?_)
          · refine V_iincN6 rfl eX2_does_143 rfl ?_
            refine V_goto eX2_does_146 ?_
            exact V.le (zle_c (zle_c (zle_c (zle_c (zle_c (zle_c (zle_c (zle_n (zle_n zle_0))))))))) (ih45 hl45 (q45.1, q45.2.1, q45.2.2) (by rw [zfold_s (n := j), ← hq45]; simp only [K_doesS_45, if_neg c76, if_pos c106, if_pos c113])  )
          · refine V_aload0 eX2_does_116 rfl ?_
            refine M_ga mb rfl eX2_does_117 fl_X2_26_2 ?_
            refine V_iload1 eX2_does_120 ?_
            refine V_iload6 eX2_does_121 ?_
            refine M_as (j := 11) (n := n) mb rfl (by decide) rfl (by show _ < _; first | decide | (simp only [mlen]; omega)) eX2_does_123 ?_
            obtain ⟨R_5, hR_5⟩ : ∃ T, T = va_up q45.2.1 n (nI j) := ⟨_, rfl⟩
            rw [ms_extA (show va_up (va_up (va_up A 11 q45.2.1) 12 q45.2.2) 11 (va_up ((va_up (va_up A 11 q45.2.1) 12 q45.2.2) 11) n (nI j)) = (va_up (va_up A 11 R_5) 12 q45.2.2) from by
                rw [hR_5]; funext q
                by_cases e11 : q = 11
                · subst e11; rfl
                by_cases e12 : q = 12
                · subst e12; rfl
                simp only [va_up, if_neg e11, if_neg e12])]
            refine V_aload0 eX2_does_124 rfl ?_
            refine V_iload1 eX2_does_125 ?_
            refine V_iconst (v := 1) (by decide) eX2_does_126 ?_
            refine V_iadd eX2_does_127 ?_
            refine V_iload2 eX2_does_128 ?_
            refine V_iconst (v := 1) (by decide) eX2_does_129 ?_
            refine V_iload6 eX2_does_130 ?_
            refine V_ishl eX2_does_132 ?_
            refine V_ior eX2_does_133 ?_
            refine V_iload7 eX2_does_134 ?_
            refine V_iload8 eX2_does_136 ?_
            refine V_iload5 eX2_does_138 ?_
            rw [show ((nI n) + (1 : Int32)) = nI (n + 1) from (zadd rfl rfl)]
            refine M_callU mb eX2_does_140 lmX2_does q2269 q2271 rfl qs85 (IH (n := (n + 1)) (by omega) (tk := (tk ||| ((1 : Int32) <<< ((nI j) &&& 31)))) (by rw [tkc_set hl45 (by omega) hbit]; omega) (sv + (S (11470 + j))) ((sv + (S (11470 + j))) + (S (11480 + j))) (A := (va_up (va_up A 11 R_5) 12 q45.2.2)) (B := B) (F := q45.1)) (zblt (by omega)) rfl rfl rfl ?_
            rw [show (va_up (va_up A 11 R_5) 12 q45.2.2) 11 = R_5 from rfl, show (va_up (va_up A 11 R_5) 12 q45.2.2) 12 = q45.2.2 from rfl]
            obtain ⟨F_6, hF_6⟩ : ∃ T, T = (rec (n + 1) (tk ||| ((1 : Int32) <<< ((nI j) &&& 31))) (sv + (S (11470 + j))) ((sv + (S (11470 + j))) + (S (11480 + j))) q45.1 R_5 q45.2.2).1 := ⟨_, rfl⟩
            obtain ⟨R_7, hR_7⟩ : ∃ T, T = (rec (n + 1) (tk ||| ((1 : Int32) <<< ((nI j) &&& 31))) (sv + (S (11470 + j))) ((sv + (S (11470 + j))) + (S (11480 + j))) q45.1 R_5 q45.2.2).2.1 := ⟨_, rfl⟩
            obtain ⟨R_8, hR_8⟩ : ∃ T, T = (rec (n + 1) (tk ||| ((1 : Int32) <<< ((nI j) &&& 31))) (sv + (S (11470 + j))) ((sv + (S (11470 + j))) + (S (11480 + j))) q45.1 R_5 q45.2.2).2.2 := ⟨_, rfl⟩
            rw [← hF_6]
            rw [ms_extA (show va_up (va_up (va_up (va_up A 11 R_5) 12 q45.2.2) 11 (rec (n + 1) (tk ||| ((1 : Int32) <<< ((nI j) &&& 31))) (sv + (S (11470 + j))) ((sv + (S (11470 + j))) + (S (11480 + j))) q45.1 R_5 q45.2.2).2.1) 12 (rec (n + 1) (tk ||| ((1 : Int32) <<< ((nI j) &&& 31))) (sv + (S (11470 + j))) ((sv + (S (11470 + j))) + (S (11480 + j))) q45.1 R_5 q45.2.2).2.2 = (va_up (va_up A 11 R_7) 12 R_8) from by
                rw [hR_7, hR_8]; funext q
                by_cases e11 : q = 11
                · subst e11; rfl
                by_cases e12 : q = 12
                · subst e12; rfl
                simp only [va_up, if_neg e11, if_neg e12])]
            refine V_iincN6 rfl eX2_does_143 rfl ?_
            refine V_goto eX2_does_146 ?_
            exact V.le (zle_c (zle_c (zle_c (zle_c (zle_c (zle_c (zle_c (zle_n (zle_n zle_0))))))))) (ih45 hl45 (F_6, R_7, R_8) (by rw [zfold_s (n := j), ← hq45]; simp only [K_doesS_45, ← hR_5, ← hF_6, ← hR_7, ← hR_8, if_neg c76, if_pos c106, if_neg c113])  )
  · have hn7 : n ≤ 7 := by rcases Nat.lt_or_ge n 8 with q | q; omega; exact absurd (tkc_le tk nj) (by omega)
    refine V_aload0 eX2_does_8 rfl ?_
    refine V_iload1 eX2_does_9 ?_
    refine M_pi mb (Or.inl rfl) rfl eX2_does_10 fl_X2_231_2 ?_
    obtain ⟨F_9, hF_9⟩ : ∃ T, T = va_up F 13 (nI n) := ⟨_, rfl⟩
    rw [← hF_9]
    have hF13_10 : F_9 13 = (nI n) := by rw [hF_9]; exact va_up_self _ _ _
    refine V_iconst (v := 0) (by decide) eX2_does_13 ?_
    refine V_istore6 rfl eX2_does_14 rfl ?_
    refine V.le (zle_c (zle_c (zle_c (zle_c (zle_c (zle_c (zle_c (zle_n (zle_n zle_0))))))))) (zloop (P := fun k => ∀ q16 : (Nat → Int32), q16 = zfold (K_doesS_16 A) k (A 12) → V w mX2_does cX2_does (d + 1) 0 0 (ms h (va_up (va_up A 11 (A 11)) 12 q16) B F_9 S) 16 [some (.ref m), some (.int (nI n)), some (.int tk), some (.int sv), some (.int pr), some (.int hh), some (.int (nI k)), none, none] [] _) n (fun k hk ih16 q16 hq16  => ?_) 0 (Nat.zero_le _) (A 12) rfl )
    refine V_iload6 eX2_does_16 ?_
    refine V_iload1 eX2_does_18 ?_
    refine V_if_icmpge eX2_does_19 (fun c19 => ?_) (fun c19 => ?_)
    · have e16 : k = n := by have := nle c19 (by omega) (by omega); omega
      rw [e16] at hq16
      refine V_iconst (v := 0) (by decide) eX2_does_42 ?_
      refine V_istore6 rfl eX2_does_43 rfl ?_
      refine V.le (zle_c (zle_c (zle_c (zle_c (zle_c (zle_c (zle_c (zle_n (zle_n zle_0))))))))) (zloop (P := fun j => ∀ q45 : (Nat → Int32) × (Nat → Int32) × (Nat → Int32), q45 = zfold (K_doesS_45 S rec n tk sv pr hh) j (F_9, (A 11), q16) → V w mX2_does cX2_does (d + 1) 0 0 (ms h (va_up (va_up A 11 q45.2.1) 12 q45.2.2) B q45.1 S) 45 [some (.ref m), some (.int (nI n)), some (.int tk), some (.int sv), some (.int pr), some (.int hh), some (.int (nI j)), none, none] [] _) nj (fun j hj ih45 q45 hq45  => ?_) 0 (Nat.zero_le _) (F_9, (A 11), q16) rfl )
      refine V_iload6 eX2_does_45 ?_
      refine V_aload0 eX2_does_47 rfl ?_
      refine M_ga mb rfl eX2_does_48 fl_X2_8_2 ?_
      refine V_bipush (v := 7) (by decide) eX2_does_51 ?_
      refine M_sl (n := 7) mb rfl (by omega) hnj eX2_does_53 ?_
      refine V_if_icmpge eX2_does_54 (fun c54 => ?_) (fun c54 => ?_)
      · have e45 : j = nj := by have := nle c54 (by omega) (by omega); omega
        rw [e45] at hq45
        have hE : (q45.1, q45.2.1, q45.2.2) = o_doesS S A F rec nj n tk sv pr hh := by simp only [o_doesS, ← hF_9, ← hq16, ← hq45, if_neg c5]
        exact V_return (x := ()) eX2_does_149 rfl (by rw [← hE]; exact ⟨rfl, rfl⟩)
      · have hl45 : j < nj := by have := nnle c54 (by omega) (by omega); omega
        refine V_iload3 eX2_does_57 ?_
        refine V_aload0 eX2_does_58 rfl ?_
        refine M_ga mb rfl eX2_does_59 fl_X2_8_2 ?_
        refine V_sipush (v := 11470) (by decide) eX2_does_62 ?_
        refine V_iload6 eX2_does_65 ?_
        refine V_iadd eX2_does_67 ?_
        refine M_sl (n := (11470 + j)) mb (zadd rfl rfl) (by omega) rfl eX2_does_68 ?_
        refine V_iadd eX2_does_69 ?_
        refine V_istore7 rfl eX2_does_70 rfl ?_
        refine V_iload7 eX2_does_72 ?_
        refine V_iload4 eX2_does_74 ?_
        refine V_if_icmple eX2_does_76 (fun c76 => ?_) (fun c76 => ?_)
        · refine V_iload4 eX2_does_84 ?_
          refine V_aload0 eX2_does_86 rfl ?_
          refine M_ga mb rfl eX2_does_87 fl_X2_8_2 ?_
          refine V_sipush (v := 11480) (by decide) eX2_does_90 ?_
          refine V_iload6 eX2_does_93 ?_
          refine V_iadd eX2_does_95 ?_
          refine M_sl (n := (11480 + j)) mb (zadd rfl rfl) (by omega) rfl eX2_does_96 ?_
          refine V_iadd eX2_does_97 ?_
          refine V_istore8 rfl eX2_does_98 rfl ?_
          refine V_iload2 eX2_does_100 ?_
          refine V_iload6 eX2_does_101 ?_
          refine V_ishr eX2_does_103 ?_
          refine V_iconst (v := 1) (by decide) eX2_does_104 ?_
          refine V_iand eX2_does_105 ?_
          refine V_ifne eX2_does_106 (fun c106 => ?_) (fun c106 => ?_)
          · refine V_iincN6 rfl eX2_does_143 rfl ?_
            refine V_goto eX2_does_146 ?_
            exact V.le (zle_c (zle_c (zle_c (zle_c (zle_c (zle_c (zle_c (zle_n (zle_n zle_0))))))))) (ih45 hl45 (q45.1, q45.2.1, q45.2.2) (by rw [zfold_s (n := j), ← hq45]; simp only [K_doesS_45, if_pos c76, if_neg c106])  )
          · have hbit : bt tk j = false := by rw [bt_test tk (by omega)] at c106; exact bI_0.mp c106
            have hn6 := tkc_lt hl45 hbit
            refine V_iload8 eX2_does_109 ?_
            refine V_iload5 eX2_does_111 ?_
            refine V_if_icmpgt eX2_does_113 (fun c113 => ?_) (fun c113 => ?_)
            · refine V_iincN6 rfl eX2_does_143 rfl ?_
              refine V_goto eX2_does_146 ?_
              exact V.le (zle_c (zle_c (zle_c (zle_c (zle_c (zle_c (zle_c (zle_n (zle_n zle_0))))))))) (ih45 hl45 (q45.1, q45.2.1, q45.2.2) (by rw [zfold_s (n := j), ← hq45]; simp only [K_doesS_45, if_pos c76, if_pos c106, if_pos c113])  )
            · refine V_aload0 eX2_does_116 rfl ?_
              refine M_ga mb rfl eX2_does_117 fl_X2_26_2 ?_
              refine V_iload1 eX2_does_120 ?_
              refine V_iload6 eX2_does_121 ?_
              refine M_as (j := 11) (n := n) mb rfl (by decide) rfl (by show _ < _; first | decide | (simp only [mlen]; omega)) eX2_does_123 ?_
              obtain ⟨R_11, hR_11⟩ : ∃ T, T = va_up q45.2.1 n (nI j) := ⟨_, rfl⟩
              rw [ms_extA (show va_up (va_up (va_up A 11 q45.2.1) 12 q45.2.2) 11 (va_up ((va_up (va_up A 11 q45.2.1) 12 q45.2.2) 11) n (nI j)) = (va_up (va_up A 11 R_11) 12 q45.2.2) from by
                  rw [hR_11]; funext q
                  by_cases e11 : q = 11
                  · subst e11; rfl
                  by_cases e12 : q = 12
                  · subst e12; rfl
                  simp only [va_up, if_neg e11, if_neg e12])]
              refine V_aload0 eX2_does_124 rfl ?_
              refine V_iload1 eX2_does_125 ?_
              refine V_iconst (v := 1) (by decide) eX2_does_126 ?_
              refine V_iadd eX2_does_127 ?_
              refine V_iload2 eX2_does_128 ?_
              refine V_iconst (v := 1) (by decide) eX2_does_129 ?_
              refine V_iload6 eX2_does_130 ?_
              refine V_ishl eX2_does_132 ?_
              refine V_ior eX2_does_133 ?_
              refine V_iload7 eX2_does_134 ?_
              refine V_iload8 eX2_does_136 ?_
              refine V_iload5 eX2_does_138 ?_
              rw [show ((nI n) + (1 : Int32)) = nI (n + 1) from (zadd rfl rfl)]
              refine M_callU mb eX2_does_140 lmX2_does q2269 q2271 rfl qs85 (IH (n := (n + 1)) (by omega) (tk := (tk ||| ((1 : Int32) <<< ((nI j) &&& 31)))) (by rw [tkc_set hl45 (by omega) hbit]; omega) (sv + (S (11470 + j))) (pr + (S (11480 + j))) (A := (va_up (va_up A 11 R_11) 12 q45.2.2)) (B := B) (F := q45.1)) (zblt (by omega)) rfl rfl rfl ?_
              rw [show (va_up (va_up A 11 R_11) 12 q45.2.2) 11 = R_11 from rfl, show (va_up (va_up A 11 R_11) 12 q45.2.2) 12 = q45.2.2 from rfl]
              obtain ⟨F_12, hF_12⟩ : ∃ T, T = (rec (n + 1) (tk ||| ((1 : Int32) <<< ((nI j) &&& 31))) (sv + (S (11470 + j))) (pr + (S (11480 + j))) q45.1 R_11 q45.2.2).1 := ⟨_, rfl⟩
              obtain ⟨R_13, hR_13⟩ : ∃ T, T = (rec (n + 1) (tk ||| ((1 : Int32) <<< ((nI j) &&& 31))) (sv + (S (11470 + j))) (pr + (S (11480 + j))) q45.1 R_11 q45.2.2).2.1 := ⟨_, rfl⟩
              obtain ⟨R_14, hR_14⟩ : ∃ T, T = (rec (n + 1) (tk ||| ((1 : Int32) <<< ((nI j) &&& 31))) (sv + (S (11470 + j))) (pr + (S (11480 + j))) q45.1 R_11 q45.2.2).2.2 := ⟨_, rfl⟩
              rw [← hF_12]
              rw [ms_extA (show va_up (va_up (va_up (va_up A 11 R_11) 12 q45.2.2) 11 (rec (n + 1) (tk ||| ((1 : Int32) <<< ((nI j) &&& 31))) (sv + (S (11470 + j))) (pr + (S (11480 + j))) q45.1 R_11 q45.2.2).2.1) 12 (rec (n + 1) (tk ||| ((1 : Int32) <<< ((nI j) &&& 31))) (sv + (S (11470 + j))) (pr + (S (11480 + j))) q45.1 R_11 q45.2.2).2.2 = (va_up (va_up A 11 R_13) 12 R_14) from by
                  rw [hR_13, hR_14]; funext q
                  by_cases e11 : q = 11
                  · subst e11; rfl
                  by_cases e12 : q = 12
                  · subst e12; rfl
                  simp only [va_up, if_neg e11, if_neg e12])]
              refine V_iincN6 rfl eX2_does_143 rfl ?_
              refine V_goto eX2_does_146 ?_
              exact V.le (zle_c (zle_c (zle_c (zle_c (zle_c (zle_c (zle_c (zle_n (zle_n zle_0))))))))) (ih45 hl45 (F_12, R_13, R_14) (by rw [zfold_s (n := j), ← hq45]; simp only [K_doesS_45, ← hR_11, ← hF_12, ← hR_13, ← hR_14, if_pos c76, if_pos c106, if_neg c113])  )
        · refine V_iload7 eX2_does_79 ?_
          refine V_goto eX2_does_81 ?_
          refine V_aload0 eX2_does_86 rfl ?_
          refine M_ga mb rfl eX2_does_87 fl_X2_8_2 ?_
          refine V_sipush (v := 11480) (by decide) eX2_does_90 ?_
          refine V_iload6 eX2_does_93 ?_
          refine V_iadd eX2_does_95 ?_
          refine M_sl (n := (11480 + j)) mb (zadd rfl rfl) (by omega) rfl eX2_does_96 ?_
          refine V_iadd eX2_does_97 ?_
          refine V_istore8 rfl eX2_does_98 rfl ?_
          refine V_iload2 eX2_does_100 ?_
          refine V_iload6 eX2_does_101 ?_
          refine V_ishr eX2_does_103 ?_
          refine V_iconst (v := 1) (by decide) eX2_does_104 ?_
          refine V_iand eX2_does_105 ?_
          refine V_ifne eX2_does_106 (fun c106 => ?_) (fun c106 => ?_)
          · refine V_iincN6 rfl eX2_does_143 rfl ?_
            refine V_goto eX2_does_146 ?_
            exact V.le (zle_c (zle_c (zle_c (zle_c (zle_c (zle_c (zle_c (zle_n (zle_n zle_0))))))))) (ih45 hl45 (q45.1, q45.2.1, q45.2.2) (by rw [zfold_s (n := j), ← hq45]; simp only [K_doesS_45, if_neg c76, if_neg c106])  )
          · have hbit : bt tk j = false := by rw [bt_test tk (by omega)] at c106; exact bI_0.mp c106
            have hn6 := tkc_lt hl45 hbit
            refine V_iload8 eX2_does_109 ?_
            refine V_iload5 eX2_does_111 ?_
            refine V_if_icmpgt eX2_does_113 (fun c113 => ?_) (fun c113 => ?_)
            · refine V_iincN6 rfl eX2_does_143 rfl ?_
              refine V_goto eX2_does_146 ?_
              exact V.le (zle_c (zle_c (zle_c (zle_c (zle_c (zle_c (zle_c (zle_n (zle_n zle_0))))))))) (ih45 hl45 (q45.1, q45.2.1, q45.2.2) (by rw [zfold_s (n := j), ← hq45]; simp only [K_doesS_45, if_neg c76, if_pos c106, if_pos c113])  )
            · refine V_aload0 eX2_does_116 rfl ?_
              refine M_ga mb rfl eX2_does_117 fl_X2_26_2 ?_
              refine V_iload1 eX2_does_120 ?_
              refine V_iload6 eX2_does_121 ?_
              refine M_as (j := 11) (n := n) mb rfl (by decide) rfl (by show _ < _; first | decide | (simp only [mlen]; omega)) eX2_does_123 ?_
              obtain ⟨R_15, hR_15⟩ : ∃ T, T = va_up q45.2.1 n (nI j) := ⟨_, rfl⟩
              rw [ms_extA (show va_up (va_up (va_up A 11 q45.2.1) 12 q45.2.2) 11 (va_up ((va_up (va_up A 11 q45.2.1) 12 q45.2.2) 11) n (nI j)) = (va_up (va_up A 11 R_15) 12 q45.2.2) from by
                  rw [hR_15]; funext q
                  by_cases e11 : q = 11
                  · subst e11; rfl
                  by_cases e12 : q = 12
                  · subst e12; rfl
                  simp only [va_up, if_neg e11, if_neg e12])]
              refine V_aload0 eX2_does_124 rfl ?_
              refine V_iload1 eX2_does_125 ?_
              refine V_iconst (v := 1) (by decide) eX2_does_126 ?_
              refine V_iadd eX2_does_127 ?_
              refine V_iload2 eX2_does_128 ?_
              refine V_iconst (v := 1) (by decide) eX2_does_129 ?_
              refine V_iload6 eX2_does_130 ?_
              refine V_ishl eX2_does_132 ?_
              refine V_ior eX2_does_133 ?_
              refine V_iload7 eX2_does_134 ?_
              refine V_iload8 eX2_does_136 ?_
              refine V_iload5 eX2_does_138 ?_
              rw [show ((nI n) + (1 : Int32)) = nI (n + 1) from (zadd rfl rfl)]
              refine M_callU mb eX2_does_140 lmX2_does q2269 q2271 rfl qs85 (IH (n := (n + 1)) (by omega) (tk := (tk ||| ((1 : Int32) <<< ((nI j) &&& 31)))) (by rw [tkc_set hl45 (by omega) hbit]; omega) (sv + (S (11470 + j))) ((sv + (S (11470 + j))) + (S (11480 + j))) (A := (va_up (va_up A 11 R_15) 12 q45.2.2)) (B := B) (F := q45.1)) (zblt (by omega)) rfl rfl rfl ?_
              rw [show (va_up (va_up A 11 R_15) 12 q45.2.2) 11 = R_15 from rfl, show (va_up (va_up A 11 R_15) 12 q45.2.2) 12 = q45.2.2 from rfl]
              obtain ⟨F_16, hF_16⟩ : ∃ T, T = (rec (n + 1) (tk ||| ((1 : Int32) <<< ((nI j) &&& 31))) (sv + (S (11470 + j))) ((sv + (S (11470 + j))) + (S (11480 + j))) q45.1 R_15 q45.2.2).1 := ⟨_, rfl⟩
              obtain ⟨R_17, hR_17⟩ : ∃ T, T = (rec (n + 1) (tk ||| ((1 : Int32) <<< ((nI j) &&& 31))) (sv + (S (11470 + j))) ((sv + (S (11470 + j))) + (S (11480 + j))) q45.1 R_15 q45.2.2).2.1 := ⟨_, rfl⟩
              obtain ⟨R_18, hR_18⟩ : ∃ T, T = (rec (n + 1) (tk ||| ((1 : Int32) <<< ((nI j) &&& 31))) (sv + (S (11470 + j))) ((sv + (S (11470 + j))) + (S (11480 + j))) q45.1 R_15 q45.2.2).2.2 := ⟨_, rfl⟩
              rw [← hF_16]
              rw [ms_extA (show va_up (va_up (va_up (va_up A 11 R_15) 12 q45.2.2) 11 (rec (n + 1) (tk ||| ((1 : Int32) <<< ((nI j) &&& 31))) (sv + (S (11470 + j))) ((sv + (S (11470 + j))) + (S (11480 + j))) q45.1 R_15 q45.2.2).2.1) 12 (rec (n + 1) (tk ||| ((1 : Int32) <<< ((nI j) &&& 31))) (sv + (S (11470 + j))) ((sv + (S (11470 + j))) + (S (11480 + j))) q45.1 R_15 q45.2.2).2.2 = (va_up (va_up A 11 R_17) 12 R_18) from by
                  rw [hR_17, hR_18]; funext q
                  by_cases e11 : q = 11
                  · subst e11; rfl
                  by_cases e12 : q = 12
                  · subst e12; rfl
                  simp only [va_up, if_neg e11, if_neg e12])]
              refine V_iincN6 rfl eX2_does_143 rfl ?_
              refine V_goto eX2_does_146 ?_
              exact V.le (zle_c (zle_c (zle_c (zle_c (zle_c (zle_c (zle_c (zle_n (zle_n zle_0))))))))) (ih45 hl45 (F_16, R_17, R_18) (by rw [zfold_s (n := j), ← hq45]; simp only [K_doesS_45, ← hR_15, ← hF_16, ← hR_17, ← hR_18, if_neg c76, if_pos c106, if_neg c113])  )
    · have hl16 : k < n := by have := nnle c19 (by omega) (by omega); omega
      refine V_aload0 eX2_does_22 rfl ?_
      refine M_ga mb rfl eX2_does_23 fl_X2_29_2 ?_
      refine V_iload6 eX2_does_26 ?_
      refine V_aload0 eX2_does_28 rfl ?_
      refine M_ga mb rfl eX2_does_29 fl_X2_26_2 ?_
      refine V_iload6 eX2_does_32 ?_
      refine M_al (j := 11) (n := k) mb rfl (by decide) rfl (by show _ < _; first | decide | (simp only [mlen]; omega)) (show _ = ((A 11) k) from rfl) eX2_does_34 ?_
      refine M_as (j := 12) (n := k) mb rfl (by decide) rfl (by show _ < _; first | decide | (simp only [mlen]; omega)) eX2_does_35 ?_
      obtain ⟨R_19, hR_19⟩ : ∃ T, T = va_up q16 k ((A 11) k) := ⟨_, rfl⟩
      rw [ms_extA (show va_up (va_up (va_up A 11 (A 11)) 12 q16) 12 (va_up ((va_up (va_up A 11 (A 11)) 12 q16) 12) k ((A 11) k)) = (va_up (va_up A 11 (A 11)) 12 R_19) from by
          rw [hR_19]; funext q
          by_cases e11 : q = 11
          · subst e11; rfl
          by_cases e12 : q = 12
          · subst e12; rfl
          simp only [va_up, if_neg e11, if_neg e12])]
      refine V_iincN6 rfl eX2_does_36 rfl ?_
      refine V_goto eX2_does_39 ?_
      exact V.le (zle_c (zle_c (zle_c (zle_c (zle_c (zle_c (zle_c (zle_n (zle_n zle_0))))))))) (ih16 hl16 R_19 (by rw [zfold_s (n := k), ← hq16]; simp only [K_doesS_16, ← hR_19])  )

/-- rows of jobs, gone through -/
def z_does (S : Nat → Int32) (nj : Nat) (hh : Int32) : Nat → Nat → Int32 → Int32 → Int32 → (Nat → Int32) → (Nat → Int32) → (Nat → Int32) → (Nat → Int32) × (Nat → Int32) × (Nat → Int32)
  | 0, _, _, _, _, F, R, Q => (F, R, Q)
  | d + 1, n, tk, sv, pr, F, R, Q => o_doesS S (fun j => if j = 11 then R else Q) F (z_does S nj hh d) nj n tk sv pr hh
theorem o_doesS_A {S : Nat → Int32} {A A' : Nat → Nat → Int32} {F : Nat → Int32} {rec : Nat → Int32 → Int32 → Int32 → (Nat → Int32) → (Nat → Int32) → (Nat → Int32) → (Nat → Int32) × (Nat → Int32) × (Nat → Int32)} {nj n : Nat} {tk sv pr hh : Int32} (h1 : A 11 = A' 11) (h2 : A 12 = A' 12) : o_doesS S A F rec nj n tk sv pr hh = o_doesS S A' F rec nj n tk sv pr hh := by
  have e : K_doesS_16 A = K_doesS_16 A' := by funext k q; unfold K_doesS_16; rw [h1]
  unfold o_doesS
  rw [h1, h2, e]
theorem c_does {w : Wd} {h : Hp} {m : Nat} {ad : Nat → Nat} {S : Nat → Int32} (mb : MB h m ad) (hh : Int32) {nj : Nat} (hnj : S 7 = nI nj) (hnj7 : nj ≤ 7) : ∀ (d : Nat) {n : Nat}, nj + 1 ≤ n + d → ∀ {tk : Int32}, tkc tk nj = n → ∀ (sv pr : Int32) {A : Nat → Nat → Int32} {B : Nat → Nat → Int64} {F : Nat → Int32}, Con w mX2_does cX2_does d 0 0 [.ref m, .int (nI n), .int tk, .int sv, .int pr, .int hh] (ms h A B F S) (Ru (ms h (va_up (va_up A 11 (z_does S nj hh d n tk sv pr F (A 11) (A 12)).2.1) 12 (z_does S nj hh d n tk sv pr F (A 11) (A 12)).2.2) B (z_does S nj hh d n tk sv pr F (A 11) (A 12)).1 S))
  | 0, n, hd, tk, hc, _, _, _, _, _ => by
    have := tkc_le tk nj
    omega
  | d + 1, n, hd, tk, hc, sv, pr, A, B, F => by
    have h1 := c_doesS (w := w) (A := A) (B := B) (F := F) mb n tk sv pr hh hnj hnj7 (z_does S nj hh d) (@fun n hd' tk hc' sv pr A B F => c_does mb hh hnj hnj7 d hd' hc' sv pr) hd hc
    rw [o_doesS_A (A' := fun j => if j = 11 then A 11 else A 12) (by rw [if_pos rfl]) (by rw [if_neg (by decide)])] at h1
    exact h1
theorem z_does_b {S : Nat → Int32} {nj : Nat} (hnj7 : nj ≤ 7) {hh : Int32} : ∀ (d : Nat) {n : Nat} {tk sv pr : Int32} {F R Q : Nat → Int32}, tkc tk nj = n → (∃ b, F 13 = nI b ∧ b ≤ 7) → ∃ b, (z_does S nj hh d n tk sv pr F R Q).1 13 = nI b ∧ b ≤ 7
  | 0, n, tk, sv, pr, F, R, Q, hc, hb => hb
  | d + 1, n, tk, sv, pr, F, R, Q, hc, hb => by
    have hn := tkc_le tk nj
    have hf : ∀ a : (Nat → Int32) × (Nat → Int32) × (Nat → Int32), (∃ b, a.1 13 = nI b ∧ b ≤ 7) → ∃ b, (zfold (K_doesS_45 S (z_does S nj hh d) n tk sv pr hh) nj a).1 13 = nI b ∧ b ≤ 7 := fun a ha =>
      zfold_inv (P := fun _ (q : (Nat → Int32) × (Nat → Int32) × (Nat → Int32)) => ∃ b, q.1 13 = nI b ∧ b ≤ 7) ha (fun j hj q hq => by
        have hr : ∀ {sv pr : Int32} {R Q : Nat → Int32}, ¬ ¬ (tk >>> (nI j &&& 31)) &&& 1 = 0 → ∃ b, (z_does S nj hh d (n + 1) (tk ||| (1 : Int32) <<< (nI j &&& 31)) sv pr q.1 R Q).1 13 = nI b ∧ b ≤ 7 := fun {sv pr R Q} hz => by
          have hz := Decidable.of_not_not hz
          rw [bt_test tk (by omega)] at hz
          exact z_does_b hnj7 d (by rw [tkc_set hj (by omega) (bI_0.mp hz), hc]) hq
        unfold K_doesS_45
        split
        · split
          · next hz =>
            split
            · exact hq
            · exact hr (fun q => q hz)
          · exact hq
        · split
          · next hz =>
            split
            · exact hq
            · exact hr (fun q => q hz)
          · exact hq)
    show ∃ b, (o_doesS S _ F (z_does S nj hh d) nj n tk sv pr hh).1 13 = nI b ∧ b ≤ 7
    unfold o_doesS
    split
    · exact hf _ hb
    · exact hf _ ⟨n, show va_up F 13 (nI n) 13 = _ from va_up_self _ _ _, by omega⟩
theorem z_does_bm {S : Nat → Int32} {nj : Nat} (hnj7 : nj ≤ 7) {hh : Int32} {F R Q : Nat → Int32} (hF : F 13 = 0) : ∃ b, (z_does S nj hh 8 0 0 0 0 F R Q).1 13 = nI b ∧ b ≤ 7 := z_does_b hnj7 8 (tkc_0 nj hnj7) ⟨0, hF, by omega⟩
