/-! which clause rules -/
def fRk (S : Nat → Int32) (wd : Int32) (a : Nat) : Nat → Int32 → Int32 := fun k best => if S (10910 + 8 * a + k) = wd ∧ (best = -1 ∨ S (9620 + (best / 8).toNatClampNeg) ≤ S (9620 + a)) then nI (8 * a + k) else best
def fRa (S : Nat → Int32) (wd d : Int32) : Nat → Int32 → Int32 := fun a best => if S (9620 + a) ≤ d then zfold (fRk S wd a) (sn S (10900 + a)) best else best
def zruling (S : Nat → Int32) (wd d : Int32) : Int32 := zfold (fRa S wd d) (sn S 3) (-1)
def Bb (x : Int32) : Prop := x = -1 ∨ ∃ b, x = nI b ∧ b < 72
def Ior (S : Nat → Int32) (no : Nat) : Prop := S 3 = nI no ∧ no ≤ 9 ∧ ∀ a, a < no → S (10900 + a) = nI (sn S (10900 + a)) ∧ sn S (10900 + a) ≤ 8
theorem fRk_b {S : Nat → Int32} {wd : Int32} {a k : Nat} {x : Int32} (h : Bb x) (ha : a < 9) (hk : k < 8) : Bb (fRk S wd a k x) := by
  unfold fRk
  split
  · exact Or.inr ⟨_, rfl, by omega⟩
  · exact h
theorem fRkn_b {S : Nat → Int32} {wd : Int32} {a : Nat} {x : Int32} (h : Bb x) (ha : a < 9) : ∀ n, n ≤ 8 → Bb (zfold (fRk S wd a) n x)
  | 0, _ => h
  | n + 1, hn => fRk_b (fRkn_b h ha n (by omega)) ha (by omega)
theorem fRan_b {S : Nat → Int32} {wd d : Int32} {no : Nat} (h : Ior S no) : ∀ n, n ≤ no → Bb (zfold (fRa S wd d) n (-1))
  | 0, _ => Or.inl rfl
  | n + 1, hn => by
    have ih := fRan_b (wd := wd) (d := d) h n (by omega)
    show Bb (fRa S wd d n _)
    unfold fRa
    split
    · exact fRkn_b ih (by have := h.2.1; omega) _ (h.2.2 n (by omega)).2
    · exact ih
theorem zruling_b {S : Nat → Int32} {wd d : Int32} {no : Nat} (h : Ior S no) : Bb (zruling S wd d) := by
  unfold zruling
  rw [sn_of h.1 (by have := h.2.1; omega)]
  exact fRan_b h no (Nat.le_refl _)
def zrdef (wd : Int32) : Int32 := if wd = 0 then 99 else if wd = 1 then 2 else if wd = 2 then 999 else if wd = 3 then 50 else if wd = 4 then 10 else if wd = 5 then 1 else 0
def zrule (S : Nat → Int32) (wd d : Int32) : Int32 := if zruling S wd d = -1 then zrdef wd else S (10990 + (zruling S wd d).toNatClampNeg)
def o_force (S : Nat → Int32) (wd d : Int32) : Int32 × (Nat → Int32) := (if zin wd 0 6 = 0 then -1 else if zin d 0 999 = 0 then -2 else zrule S wd d, S)
def o_why (S : Nat → Int32) (wd d : Int32) : Int32 × (Nat → Int32) :=
  (if zin wd 0 6 = 0 then -1 else if zin d 0 999 = 0 then -2 else if zruling S wd d = -1 then -5 else 100 * (zruling S wd d / 8) + (zruling S wd d - zruling S wd d / 8 * 8), S)
theorem c_ruling {w : Wd} {h : Hp} {m : Nat} {ad : Nat → Nat} {A : Nat → Nat → Int32} {B : Nat → Nat → Int64} {F S : Nat → Int32} (mb : MB h m ad) (wd d : Int32) {no : Nat} (ho : Ior S no) : Con w mX2_ruling cX2_ruling 1 0 0 [.ref m, .int wd, .int d] (ms h A B F S) (Rv (.int (zruling S wd d)) (ms h A B F S)) := by
  refine Con.of (by decide +kernel) rfl rfl ?_
  show V w mX2_ruling cX2_ruling 1 0 0 _ 0 [some (.ref m), some (.int wd), some (.int d), none, none, none, none] [] _
  obtain ⟨ho1, ho2, ho3⟩ := ho
  have hs := sn_of ho1 (by omega)
  refine V_iconst (v := -1) (by decide) eX2_ruling_0 ?_
  refine V_istore3 rfl eX2_ruling_1 rfl ?_
  refine V_iconst (v := 0) (by decide) eX2_ruling_2 ?_
  refine V_istore4 rfl eX2_ruling_3 rfl ?_
  refine zloop (P := fun a => ∀ (o5 o6 : Option Value) (best : Int32), best = zfold (fRa S wd d) a (-1) → V w mX2_ruling cX2_ruling 1 0 0 (ms h A B F S) 5 [some (.ref m), some (.int wd), some (.int d), some (.int best), some (.int (nI a)), o5, o6] [] _) no (fun a ha ih o5 o6 best hb => ?_) 0 (Nat.zero_le _) none none (-1) rfl
  refine V_iload4 eX2_ruling_5 ?_
  refine V_aload0 eX2_ruling_7 rfl ?_
  refine M_ga mb rfl eX2_ruling_8 fl_X2_8_2 ?_
  refine V_iconst (v := 3) (by decide) eX2_ruling_11 ?_
  refine M_sl (n := 3) mb rfl (by omega) ho1 eX2_ruling_12 ?_
  refine V_if_icmpge eX2_ruling_13 (fun c13 => ?_) (fun c13 => ?_)
  · have e : a = no := by have := nle c13 (by omega) (by omega); omega
    refine V_iload3 eX2_ruling_140 ?_
    exact V_ireturn eX2_ruling_141 rfl (Rv.i (by rw [hb, e, zruling, hs]))
  · have halt := nnle c13 (by omega) (by omega)
    obtain ⟨lc, hlc, hlc8⟩ : ∃ lc, S (10900 + a) = nI lc ∧ lc ≤ 8 := ⟨_, ho3 a halt⟩
    have hlcs := sn_of hlc (by omega)
    have hbb : Bb best := by rw [hb]; exact fRan_b ⟨ho1, ho2, ho3⟩ a ha
    obtain ⟨b0, hb0⟩ : ∃ b0, b0 = best := ⟨_, rfl⟩
    rw [← hb0] at hbb
    refine V_iconst (v := 0) (by decide) eX2_ruling_16 ?_
    refine V_istore5 rfl eX2_ruling_17 rfl ?_
    rw [← hb0]
    refine zloop (P := fun k => ∀ (o6 : Option Value) (best : Int32), best = zfold (fRk S wd a) k b0 → (k = 0 ∨ S (9620 + a) ≤ d) → V w mX2_ruling cX2_ruling 1 0 0 (ms h A B F S) 19 [some (.ref m), some (.int wd), some (.int d), some (.int best), some (.int (nI a)), some (.int (nI k)), o6] [] _) lc (fun k hk ih2 o6 best hb2 hdy => ?_) 0 (Nat.zero_le _) o6 b0 rfl (Or.inl rfl)
    refine V_iload5 eX2_ruling_19 ?_
    refine V_aload0 eX2_ruling_21 rfl ?_
    refine M_ga mb rfl eX2_ruling_22 fl_X2_8_2 ?_
    refine V_sipush (v := 10900) (by decide) eX2_ruling_25 ?_
    refine V_iload4 eX2_ruling_28 ?_
    refine V_iadd eX2_ruling_30 ?_
    refine M_sl (n := (10900 + a)) mb (zadd rfl rfl) (by omega) hlc eX2_ruling_31 ?_
    refine V_if_icmpge eX2_ruling_32 (fun c32 => ?_) (fun c32 => ?_)
    · have hke : k = lc := by have := nle c32 (by omega) (by omega); omega
      refine V_iincN4 rfl eX2_ruling_134 rfl ?_
      refine V_goto eX2_ruling_137 ?_
      exact ih halt _ _ _ (by rw [hb2, hke, zfold, ← hb, ← hb0, fRa, hlcs]; rcases hdy with q | q
                              · rw [show lc = 0 by omega]; split <;> rfl
                              · rw [if_pos q])
    · have hklt := nnle c32 (by omega) (by omega)
      have hbb2 : Bb best := by rw [hb2]; exact fRkn_b hbb (by omega) k (by omega)
      refine V_aload0 eX2_ruling_35 rfl ?_
      refine M_ga mb rfl eX2_ruling_36 fl_X2_8_2 ?_
      refine V_sipush (v := 9620) (by decide) eX2_ruling_39 ?_
      refine V_iload4 eX2_ruling_42 ?_
      refine V_iadd eX2_ruling_44 ?_
      refine M_sl (n := (9620 + a)) mb (zadd rfl rfl) (by omega) rfl eX2_ruling_45 ?_
      refine V_iload2 eX2_ruling_46 ?_
      refine V_if_icmpgt eX2_ruling_47 (fun c47 => ?_) (fun c47 => ?_)
      · have hk0 : k = 0 := by
          rcases hdy with q | q
          · exact q
          · exact absurd q (zle_nlt.mpr c47)
        refine V_iincN4 rfl eX2_ruling_134 rfl ?_
        refine V_goto eX2_ruling_137 ?_
        exact ih halt _ _ _ (by rw [hb2, hk0, zfold, zfold, ← hb, ← hb0, fRa, if_neg (zle_nlt.mpr c47)])
      · refine V_aload0 eX2_ruling_50 rfl ?_
        refine M_ga mb rfl eX2_ruling_51 fl_X2_8_2 ?_
        refine V_sipush (v := 10910) (by decide) eX2_ruling_54 ?_
        refine V_bipush (v := 8) (by decide) eX2_ruling_57 ?_
        refine V_iload4 eX2_ruling_59 ?_
        refine V_imul eX2_ruling_61 ?_
        refine V_iadd eX2_ruling_62 ?_
        refine V_iload5 eX2_ruling_63 ?_
        refine V_iadd eX2_ruling_65 ?_
        refine M_sl (n := ((10910 + (8 * a)) + k)) mb (zadd (zadd rfl (zmul rfl rfl)) rfl) (by omega) rfl eX2_ruling_66 ?_
        refine V_iload1 eX2_ruling_67 ?_
        refine V_if_icmpne eX2_ruling_68 (fun c68 => ?_) (fun c68 => ?_)
        · refine V_iconst (v := 0) (by decide) eX2_ruling_107 ?_
          refine V_istore6 rfl eX2_ruling_108 rfl ?_
          refine V_iload6 eX2_ruling_110 ?_
          refine V_ifeq eX2_ruling_112 (fun c112 => ?_) (fun c112 => absurd c112 (by decide))
          refine V_iload3 eX2_ruling_126 ?_
          refine V_istore3 rfl eX2_ruling_127 rfl ?_
          refine V_iincN5 rfl eX2_ruling_128 rfl ?_
          refine V_goto eX2_ruling_131 ?_
          exact ih2 hklt _ _ (by rw [zfold, ← hb2]; unfold fRk; rw [if_neg (fun q => c68 q.1)]) (Or.inr (zlt_nle.mp c47))
        · refine V_iload3 eX2_ruling_71 ?_
          refine V_iconst (v := -1) (by decide) eX2_ruling_72 ?_
          refine V_if_icmpeq eX2_ruling_73 (fun c73 => ?_) (fun c73 => ?_)
          · refine V_iconst (v := 1) (by decide) eX2_ruling_103 ?_
            refine V_goto eX2_ruling_104 ?_
            refine V_istore6 rfl eX2_ruling_108 rfl ?_
            refine V_iload6 eX2_ruling_110 ?_
            refine V_ifeq eX2_ruling_112 (fun c112 => absurd c112 (by decide)) (fun c112 => ?_)
            refine V_bipush (v := 8) (by decide) eX2_ruling_115 ?_
            refine V_iload4 eX2_ruling_117 ?_
            refine V_imul eX2_ruling_119 ?_
            refine V_iload5 eX2_ruling_120 ?_
            refine V_iadd eX2_ruling_122 ?_
            rw [show (8 : Int32) * nI a + nI k = nI (8 * a + k) from zadd (zmul rfl rfl) rfl]
            refine V_goto eX2_ruling_123 ?_
            refine V_istore3 rfl eX2_ruling_127 rfl ?_
            refine V_iincN5 rfl eX2_ruling_128 rfl ?_
            refine V_goto eX2_ruling_131 ?_
            exact ih2 hklt _ _ (by rw [zfold, ← hb2]; unfold fRk; rw [if_pos ⟨c68, Or.inl c73⟩]) (Or.inr (zlt_nle.mp c47))
          · obtain ⟨b, hb3, hb4⟩ : ∃ b, best = nI b ∧ b < 72 := by
              rcases hbb2 with q | q
              · exact absurd q c73
              · exact q
            have hdv : best / 8 = nI (b / 8) := by rw [hb3]; exact pk_div (d := 8) (by omega) (by decide) (by decide)
            have hdc : (best / 8).toNatClampNeg = b / 8 := by rw [hdv]; exact nI_clamp (by omega)
            refine V_aload0 eX2_ruling_76 rfl ?_
            refine M_ga mb rfl eX2_ruling_77 fl_X2_8_2 ?_
            refine V_sipush (v := 9620) (by decide) eX2_ruling_80 ?_
            refine V_iload4 eX2_ruling_83 ?_
            refine V_iadd eX2_ruling_85 ?_
            refine M_sl (n := (9620 + a)) mb (zadd rfl rfl) (by omega) rfl eX2_ruling_86 ?_
            refine V_aload0 eX2_ruling_87 rfl ?_
            refine M_ga mb rfl eX2_ruling_88 fl_X2_8_2 ?_
            refine V_sipush (v := 9620) (by decide) eX2_ruling_91 ?_
            refine V_iload3 eX2_ruling_94 ?_
            refine V_bipush (v := 8) (by decide) eX2_ruling_95 ?_
            refine V_idiv (by decide) eX2_ruling_97 ?_
            refine V_iadd eX2_ruling_98 ?_
            refine M_sl (n := (9620 + (b / 8))) mb (zadd rfl hdv) (by omega) rfl eX2_ruling_99 ?_
            refine V_if_icmplt eX2_ruling_100 (fun c100 => ?_) (fun c100 => ?_)
            · refine V_iconst (v := 0) (by decide) eX2_ruling_107 ?_
              refine V_istore6 rfl eX2_ruling_108 rfl ?_
              refine V_iload6 eX2_ruling_110 ?_
              refine V_ifeq eX2_ruling_112 (fun c112 => ?_) (fun c112 => absurd c112 (by decide))
              refine V_iload3 eX2_ruling_126 ?_
              refine V_istore3 rfl eX2_ruling_127 rfl ?_
              refine V_iincN5 rfl eX2_ruling_128 rfl ?_
              refine V_goto eX2_ruling_131 ?_
              exact ih2 hklt _ _ (by rw [zfold, ← hb2]; unfold fRk; rw [if_neg (fun q => q.2.elim c73 (fun z => by rw [hdc] at z; exact absurd z (zle_nlt.mpr c100)))]) (Or.inr (zlt_nle.mp c47))
            · refine V_iconst (v := 1) (by decide) eX2_ruling_103 ?_
              refine V_goto eX2_ruling_104 ?_
              refine V_istore6 rfl eX2_ruling_108 rfl ?_
              refine V_iload6 eX2_ruling_110 ?_
              refine V_ifeq eX2_ruling_112 (fun c112 => absurd c112 (by decide)) (fun c112 => ?_)
              refine V_bipush (v := 8) (by decide) eX2_ruling_115 ?_
              refine V_iload4 eX2_ruling_117 ?_
              refine V_imul eX2_ruling_119 ?_
              refine V_iload5 eX2_ruling_120 ?_
              refine V_iadd eX2_ruling_122 ?_
              rw [show (8 : Int32) * nI a + nI k = nI (8 * a + k) from zadd (zmul rfl rfl) rfl]
              refine V_goto eX2_ruling_123 ?_
              refine V_istore3 rfl eX2_ruling_127 rfl ?_
              refine V_iincN5 rfl eX2_ruling_128 rfl ?_
              refine V_goto eX2_ruling_131 ?_
              exact ih2 hklt _ _ (by rw [zfold, ← hb2]; unfold fRk; rw [if_pos ⟨c68, Or.inr (by rw [hdc]; exact zlt_nle.mp c100)⟩]) (Or.inr (zlt_nle.mp c47))

theorem c_rule {w : Wd} {h : Hp} {m : Nat} {ad : Nat → Nat} {A : Nat → Nat → Int32} {B : Nat → Nat → Int64} {F S : Nat → Int32} (mb : MB h m ad) (wd d : Int32) {no : Nat} (ho : Ior S no) : Con w mX2_rule cX2_rule 2 0 0 [.ref m, .int wd, .int d] (ms h A B F S) (Rv (.int (zrule S wd d)) (ms h A B F S)) := by
  refine Con.of (by decide +kernel) rfl rfl ?_
  show V w mX2_rule cX2_rule 2 0 0 _ 0 [some (.ref m), some (.int wd), some (.int d), none] [] _
  refine V_aload0 eX2_rule_0 rfl ?_
  refine V_iload1 eX2_rule_1 ?_
  refine V_iload2 eX2_rule_2 ?_
  refine M_call mb eX2_rule_3 lmX2_ruling q2095 q2097 rfl qs64 (c_ruling mb _ _ ho) rfl rfl rfl rfl ?_
  refine V_istore3 rfl eX2_rule_6 rfl ?_
  refine V_iload3 eX2_rule_7 ?_
  refine V_iconst (v := -1) (by decide) eX2_rule_8 ?_
  refine V_if_icmpeq eX2_rule_9 (fun c9 => ?_) (fun c9 => ?_)
  · refine V_iload1 eX2_rule_23 ?_
    refine V_tableswitch eX2_rule_24 (fun i t ht hx => ?_) (fun hx => ?_)
    · have hi : i < 6 := (List.getElem?_eq_some_iff.mp ht).1
      rcases (show i = 0 ∨ i = 1 ∨ i = 2 ∨ i = 3 ∨ i = 4 ∨ i = 5 by omega) with rfl | rfl | rfl | rfl | rfl | rfl
      all_goals cases ht
      · have hwd : wd = 0 := zti hx (by decide)
        refine V_bipush (v := 99) (by decide) eX2_rule_64 ?_
        exact V_ireturn eX2_rule_66 rfl (Rv.i (by rw [zrule, if_pos c9]; simp [zrdef, *]))
      · have hwd : wd = 1 := zti hx (by decide)
        refine V_iconst (v := 2) (by decide) eX2_rule_67 ?_
        exact V_ireturn eX2_rule_68 rfl (Rv.i (by rw [zrule, if_pos c9]; simp [zrdef, *]))
      · have hwd : wd = 2 := zti hx (by decide)
        refine V_sipush (v := 999) (by decide) eX2_rule_69 ?_
        exact V_ireturn eX2_rule_72 rfl (Rv.i (by rw [zrule, if_pos c9]; simp [zrdef, *]))
      · have hwd : wd = 3 := zti hx (by decide)
        refine V_bipush (v := 50) (by decide) eX2_rule_73 ?_
        exact V_ireturn eX2_rule_75 rfl (Rv.i (by rw [zrule, if_pos c9]; simp [zrdef, *]))
      · have hwd : wd = 4 := zti hx (by decide)
        refine V_bipush (v := 10) (by decide) eX2_rule_76 ?_
        exact V_ireturn eX2_rule_78 rfl (Rv.i (by rw [zrule, if_pos c9]; simp [zrdef, *]))
      · have hwd : wd = 5 := zti hx (by decide)
        refine V_iconst (v := 1) (by decide) eX2_rule_79 ?_
        exact V_ireturn eX2_rule_80 rfl (Rv.i (by rw [zrule, if_pos c9]; simp [zrdef, *]))
    · have hw0 : ¬ wd = 0 := fun q => by rw [q] at hx; revert hx; decide
      have hw1 : ¬ wd = 1 := fun q => by rw [q] at hx; revert hx; decide
      have hw2 : ¬ wd = 2 := fun q => by rw [q] at hx; revert hx; decide
      have hw3 : ¬ wd = 3 := fun q => by rw [q] at hx; revert hx; decide
      have hw4 : ¬ wd = 4 := fun q => by rw [q] at hx; revert hx; decide
      have hw5 : ¬ wd = 5 := fun q => by rw [q] at hx; revert hx; decide
      refine V_iconst (v := 0) (by decide) eX2_rule_81 ?_
      exact V_ireturn eX2_rule_82 rfl (Rv.i (by rw [zrule, if_pos c9]; simp [zrdef, *]))
  · obtain ⟨b, hb3, hb4⟩ : ∃ b, zruling S wd d = nI b ∧ b < 72 := by
      rcases zruling_b (wd := wd) (d := d) ho with q | q
      · exact absurd q c9
      · exact q
    have hbc : (zruling S wd d).toNatClampNeg = b := by rw [hb3]; exact nI_clamp (by omega)
    refine V_aload0 eX2_rule_12 rfl ?_
    refine M_ga mb rfl eX2_rule_13 fl_X2_8_2 ?_
    refine V_sipush (v := 10990) (by decide) eX2_rule_16 ?_
    refine V_iload3 eX2_rule_19 ?_
    refine V_iadd eX2_rule_20 ?_
    refine M_sl (n := (10990 + b)) mb (zadd rfl hb3) (by omega) rfl eX2_rule_21 ?_
    exact V_ireturn eX2_rule_22 rfl (Rv.i (by rw [zrule, if_neg c9, hbc]))

theorem c_force {w : Wd} {h : Hp} {m : Nat} {ad : Nat → Nat} {A : Nat → Nat → Int32} {B : Nat → Nat → Int64} {F S : Nat → Int32} (mb : MB h m ad) (wd : Int32) (d : Int32) {no : Nat} (ho : Ior S no) : Con w mX2_force cX2_force 5 0 0 [.ref m, .int wd, .int d] (ms h A B F S) (Rv (.int (o_force S wd d).1) (ms h A B F (o_force S wd d).2)) := by
  refine Con.of (by decide +kernel) rfl rfl ?_
  show V w mX2_force cX2_force 5 0 0 _ 0 [some (.ref m), some (.int wd), some (.int d)] [] _
  refine V_iload1 eX2_force_0 ?_
  refine V_iconst (v := 0) (by decide) eX2_force_1 ?_
  refine V_bipush (v := 6) (by decide) eX2_force_2 ?_
  refine C0_static eX2_force_4 lmX2_in q1966 q1967 (c_in _ _ _ _) rfl rfl rfl rfl ?_
  refine V_ifne eX2_force_7 (fun c7 => ?_) (fun c7 => ?_)
  · refine V_iload2 eX2_force_14 ?_
    refine C0_static eX2_force_15 lmX2_isDay q1994 q1995 (c_isDay _ _) rfl rfl rfl rfl ?_
    refine V_ifeq eX2_force_18 (fun c18 => ?_) (fun c18 => ?_)
    · refine V_bipush (v := -2) (by decide) eX2_force_30 ?_
      exact V_ireturn eX2_force_32 rfl (Rv.p (by clear mb ho; grind [o_force]))
    · refine V_aload0 eX2_force_21 rfl ?_
      refine V_iload1 eX2_force_22 ?_
      refine V_iload2 eX2_force_23 ?_
      refine M_call mb eX2_force_24 lmX2_rule q2091 q2093 rfl qs63 (c_rule mb _ _ ho) rfl rfl rfl rfl ?_
      refine V_goto eX2_force_27 ?_
      exact V_ireturn eX2_force_32 rfl (Rv.p (by clear mb ho; grind [o_force]))
  · refine V_iconst (v := -1) (by decide) eX2_force_10 ?_
    refine V_goto eX2_force_11 ?_
    exact V_ireturn eX2_force_32 rfl (Rv.p (by clear mb ho; grind [o_force]))

theorem c_why {w : Wd} {h : Hp} {m : Nat} {ad : Nat → Nat} {A : Nat → Nat → Int32} {B : Nat → Nat → Int64} {F S : Nat → Int32} (mb : MB h m ad) (wd : Int32) (d : Int32) {no : Nat} (ho : Ior S no) : Con w mX2_why cX2_why 5 0 0 [.ref m, .int wd, .int d] (ms h A B F S) (Rv (.int (o_why S wd d).1) (ms h A B F (o_why S wd d).2)) := by
  refine Con.of (by decide +kernel) rfl rfl ?_
  show V w mX2_why cX2_why 5 0 0 _ 0 [some (.ref m), some (.int wd), some (.int d), none] [] _
  refine V_iload1 eX2_why_0 ?_
  refine V_iconst (v := 0) (by decide) eX2_why_1 ?_
  refine V_bipush (v := 6) (by decide) eX2_why_2 ?_
  refine C0_static eX2_why_4 lmX2_in q1966 q1967 (c_in _ _ _ _) rfl rfl rfl rfl ?_
  refine V_ifne eX2_why_7 (fun c7 => ?_) (fun c7 => ?_)
  · refine V_iload2 eX2_why_12 ?_
    refine C0_static eX2_why_13 lmX2_isDay q1994 q1995 (c_isDay _ _) rfl rfl rfl rfl ?_
    refine V_ifne eX2_why_16 (fun c16 => ?_) (fun c16 => ?_)
    · refine V_aload0 eX2_why_22 rfl ?_
      refine V_iload1 eX2_why_23 ?_
      refine V_iload2 eX2_why_24 ?_
      refine M_call mb eX2_why_25 lmX2_ruling q2095 q2097 rfl qs64 (c_ruling mb _ _ ho) rfl rfl rfl rfl ?_
      refine V_istore3 rfl eX2_why_28 rfl ?_
      refine V_iload3 eX2_why_29 ?_
      refine V_iconst (v := -1) (by decide) eX2_why_30 ?_
      refine V_if_icmpne eX2_why_31 (fun c31 => ?_) (fun c31 => ?_)
      · refine V_bipush (v := 100) (by decide) eX2_why_39 ?_
        refine V_iload3 eX2_why_41 ?_
        refine V_bipush (v := 8) (by decide) eX2_why_42 ?_
        refine V_idiv (by decide) eX2_why_44 ?_
        refine V_imul eX2_why_45 ?_
        refine V_iload3 eX2_why_46 ?_
        refine V_bipush (v := 8) (by decide) eX2_why_47 ?_
        refine V_irem (by decide) eX2_why_49 ?_
        refine V_iadd eX2_why_50 ?_
        exact V_ireturn eX2_why_51 rfl (Rv.p (by clear mb ho; simp [o_why, *]))
      · refine V_bipush (v := -5) (by decide) eX2_why_34 ?_
        refine V_goto eX2_why_36 ?_
        exact V_ireturn eX2_why_51 rfl (Rv.p (by clear mb ho; simp [o_why, *]))
    · refine V_bipush (v := -2) (by decide) eX2_why_19 ?_
      exact V_ireturn eX2_why_21 rfl (Rv.p (by clear mb ho; simp [o_why, *]))
  · refine V_iconst (v := -1) (by decide) eX2_why_10 ?_
    exact V_ireturn eX2_why_11 rfl (Rv.p (by clear mb ho; simp [o_why, *]))

/-- the first place from i on, of n, at which P; -5: none -/
def zfirst (P : Nat → Bool) : Nat → Nat → Int32
  | 0, _ => -5
  | n + 1, i => if P i = true then nI i else zfirst P n (i + 1)
def pOpen (S : Nat → Int32) (p : Nat) (d : Int32) (k : Nat) : Bool := decide (S (7160 + 41 * p + k) = -1000000) || decide (¬ zsz (S (7160 + 41 * p + k) - S (20 + wc S p k)) ≤ zrule S 1 d)
def pSteep (S : Nat → Int32) (p : Nat) (d : Int32) (k : Nat) : Bool := decide (¬ zsz (S (20 + wc S p k) - S (20 + wc S p (k - 1))) ≤ zrule S 0 d)
def zopen (S : Nat → Int32) (p : Nat) (d : Int32) : Int32 := zfirst (pOpen S p d) (sn S (850 + p)) 0
def zsteep (S : Nat → Int32) (p : Nat) (d : Int32) : Int32 := zfirst (pSteep S p d) (sn S (850 + p) - 1) 1
theorem c_sizeZ {w : Wd} (h : Hp) (v : Int32) : Con w mX2_size cX2_size 1 0 0 [.int v] h (Rv (.int (zsz v)) h) := c_size h v
def o_close (S : Nat → Int32) (plan what d : Int32) : Int32 × (Nat → Int32) :=
  (if zof S plan 2 = false ∨ zin what 0 1 = 0 then -1 else if zin d 0 999 = 0 then -2 else if what = 0 then zopen S plan.toNatClampNeg d else zsteep S plan.toNatClampNeg d, S)
theorem c_notClose {w : Wd} {h : Hp} {m : Nat} {ad : Nat → Nat} {A : Nat → Nat → Int32} {B : Nat → Nat → Int64} {F S : Nat → Int32} (mb : MB h m ad) {p wl : Nat} (d : Int32) (hp : p < 60) (hw : Iw S p wl) {no : Nat} (ho : Ior S no) : Con w mX2_notClose cX2_notClose 3 0 0 [.ref m, .int (nI p), .int d] (ms h A B F S) (Rv (.int (zopen S p d)) (ms h A B F S)) := by
  refine Con.of (by decide +kernel) rfl rfl ?_
  show V w mX2_notClose cX2_notClose 3 0 0 _ 0 [some (.ref m), some (.int (nI p)), some (.int d), none, none] [] _
  obtain ⟨hw1, hw2, hw3⟩ := hw
  have hs := sn_of hw1 (by omega)
  refine V_iconst (v := 0) (by decide) eX2_notClose_0 ?_
  refine V_istore3 rfl eX2_notClose_1 rfl ?_
  refine zloop (P := fun i => ∀ o4 : Option Value, zopen S p d = zfirst (pOpen S p d) (wl - i) i → V w mX2_notClose cX2_notClose 3 0 0 (ms h A B F S) 2 [some (.ref m), some (.int (nI p)), some (.int d), some (.int (nI i)), o4] [] _) wl (fun i hi ih o4 hq => ?_) 0 (Nat.zero_le _) none (by rw [zopen, hs]; rfl)
  refine V_iload3 eX2_notClose_2 ?_
  refine V_aload0 eX2_notClose_3 rfl ?_
  refine M_ga mb rfl eX2_notClose_4 fl_X2_8_2 ?_
  refine V_sipush (v := 850) (by decide) eX2_notClose_7 ?_
  refine V_iload1 eX2_notClose_10 ?_
  refine V_iadd eX2_notClose_11 ?_
  refine M_sl (n := (850 + p)) mb (zadd rfl rfl) (by omega) hw1 eX2_notClose_12 ?_
  refine V_if_icmpge eX2_notClose_13 (fun c13 => ?_) (fun c13 => ?_)
  · have e : i = wl := by have := nle c13 (by omega) (by omega); omega
    refine V_bipush (v := -5) (by decide) eX2_notClose_86 ?_
    exact V_ireturn eX2_notClose_88 rfl (Rv.i (by rw [hq, e, Nat.sub_self, zfirst]))
  · have hlt := nnle c13 (by omega) (by omega)
    have hcb := (hw3 i hlt).2
    refine V_aload0 eX2_notClose_16 rfl ?_
    refine M_ga mb rfl eX2_notClose_17 fl_X2_8_2 ?_
    refine V_sipush (v := 7160) (by decide) eX2_notClose_20 ?_
    refine V_bipush (v := 41) (by decide) eX2_notClose_23 ?_
    refine V_iload1 eX2_notClose_25 ?_
    refine V_imul eX2_notClose_26 ?_
    refine V_iadd eX2_notClose_27 ?_
    refine V_iload3 eX2_notClose_28 ?_
    refine V_iadd eX2_notClose_29 ?_
    refine M_sl (n := ((7160 + (41 * p)) + i)) mb (zadd (zadd rfl (zmul rfl rfl)) rfl) (by omega) rfl eX2_notClose_30 ?_
    refine V_istore4 rfl eX2_notClose_31 rfl ?_
    refine V_iload4 eX2_notClose_33 ?_
    refine V_ldc (v := -1000000) eX2_notClose_35 q2145 ?_
    refine V_if_icmpeq eX2_notClose_37 (fun c37 => ?_) (fun c37 => ?_)
    · refine V_iload3 eX2_notClose_78 ?_
      exact V_ireturn eX2_notClose_79 rfl (Rv.i (by rw [hq, show wl - i = (wl - (i + 1)) + 1 by omega, zfirst, if_pos (by simp [pOpen, c37])]))
    · refine V_iload4 eX2_notClose_40 ?_
      refine V_aload0 eX2_notClose_42 rfl ?_
      refine M_ga mb rfl eX2_notClose_43 fl_X2_8_2 ?_
      refine V_bipush (v := 20) (by decide) eX2_notClose_46 ?_
      refine V_aload0 eX2_notClose_48 rfl ?_
      refine M_ga mb rfl eX2_notClose_49 fl_X2_8_2 ?_
      refine V_sipush (v := 4700) (by decide) eX2_notClose_52 ?_
      refine V_bipush (v := 41) (by decide) eX2_notClose_55 ?_
      refine V_iload1 eX2_notClose_57 ?_
      refine V_imul eX2_notClose_58 ?_
      refine V_iadd eX2_notClose_59 ?_
      refine V_iload3 eX2_notClose_60 ?_
      refine V_iadd eX2_notClose_61 ?_
      refine M_sl (n := ((4700 + (41 * p)) + i)) mb (zadd (zadd rfl (zmul rfl rfl)) rfl) (by omega) (hw3 i hlt).1 eX2_notClose_62 ?_
      refine V_iadd eX2_notClose_63 ?_
      refine M_sl (n := (20 + (wc S p i))) mb (zadd rfl rfl) (by omega) rfl eX2_notClose_64 ?_
      refine V_isub eX2_notClose_65 ?_
      refine C0_static eX2_notClose_66 lmX2_size q2159 q2160 (c_sizeZ _ _) rfl rfl rfl rfl ?_
      refine V_aload0 eX2_notClose_69 rfl ?_
      refine V_iconst (v := 1) (by decide) eX2_notClose_70 ?_
      refine V_iload2 eX2_notClose_71 ?_
      refine M_call mb eX2_notClose_72 lmX2_rule q2091 q2093 rfl qs63 (c_rule mb _ _ ho) rfl rfl rfl rfl ?_
      refine V_if_icmple eX2_notClose_75 (fun c75 => ?_) (fun c75 => ?_)
      · refine V_iincN3 rfl eX2_notClose_80 rfl ?_
        refine V_goto eX2_notClose_83 ?_
        exact ih hlt _ (by rw [hq, show wl - i = (wl - (i + 1)) + 1 by omega, zfirst, if_neg (by simp [pOpen, c37, c75])])
      · refine V_iload3 eX2_notClose_78 ?_
        exact V_ireturn eX2_notClose_79 rfl (Rv.i (by rw [hq, show wl - i = (wl - (i + 1)) + 1 by omega, zfirst, if_pos (by simp [pOpen, c75])]))

theorem c_steep {w : Wd} {h : Hp} {m : Nat} {ad : Nat → Nat} {A : Nat → Nat → Int32} {B : Nat → Nat → Int64} {F S : Nat → Int32} (mb : MB h m ad) {p wl : Nat} (d : Int32) (hp : p < 60) (hw : Iw S p wl) {no : Nat} (ho : Ior S no) : Con w mX2_steep cX2_steep 3 0 0 [.ref m, .int (nI p), .int d] (ms h A B F S) (Rv (.int (zsteep S p d)) (ms h A B F S)) := by
  refine Con.of (by decide +kernel) rfl rfl ?_
  show V w mX2_steep cX2_steep 3 0 0 _ 0 [some (.ref m), some (.int (nI p)), some (.int d), none] [] _
  obtain ⟨hw1, hw2, hw3⟩ := hw
  have hs := sn_of hw1 (by omega)
  refine V_iconst (v := 1) (by decide) eX2_steep_0 ?_
  refine V_istore3 rfl eX2_steep_1 rfl ?_
  refine zloop (P := fun i => zsteep S p d = zfirst (pSteep S p d) (wl - 1 - i) (i + 1) → V w mX2_steep cX2_steep 3 0 0 (ms h A B F S) 2 [some (.ref m), some (.int (nI p)), some (.int d), some (.int (nI (i + 1)))] [] _) (wl - 1) (fun i hi ih hq => ?_) 0 (Nat.zero_le _) (by rw [zsteep, hs]; rfl)
  refine V_iload3 eX2_steep_2 ?_
  refine V_aload0 eX2_steep_3 rfl ?_
  refine M_ga mb rfl eX2_steep_4 fl_X2_8_2 ?_
  refine V_sipush (v := 850) (by decide) eX2_steep_7 ?_
  refine V_iload1 eX2_steep_10 ?_
  refine V_iadd eX2_steep_11 ?_
  refine M_sl (n := (850 + p)) mb (zadd rfl rfl) (by omega) hw1 eX2_steep_12 ?_
  refine V_if_icmpge eX2_steep_13 (fun c13 => ?_) (fun c13 => ?_)
  · have e : i = wl - 1 := by have := nle c13 (by omega) (by omega); omega
    refine V_bipush (v := -5) (by decide) eX2_steep_85 ?_
    exact V_ireturn eX2_steep_87 rfl (Rv.i (by rw [hq, e, Nat.sub_self, zfirst]))
  · have hlt := nnle c13 (by omega) (by omega)
    have hcb := (hw3 (i + 1) hlt).2
    have hcb2 := (hw3 i (by omega)).2
    refine V_aload0 eX2_steep_16 rfl ?_
    refine M_ga mb rfl eX2_steep_17 fl_X2_8_2 ?_
    refine V_bipush (v := 20) (by decide) eX2_steep_20 ?_
    refine V_aload0 eX2_steep_22 rfl ?_
    refine M_ga mb rfl eX2_steep_23 fl_X2_8_2 ?_
    refine V_sipush (v := 4700) (by decide) eX2_steep_26 ?_
    refine V_bipush (v := 41) (by decide) eX2_steep_29 ?_
    refine V_iload1 eX2_steep_31 ?_
    refine V_imul eX2_steep_32 ?_
    refine V_iadd eX2_steep_33 ?_
    refine V_iload3 eX2_steep_34 ?_
    refine V_iadd eX2_steep_35 ?_
    refine M_sl (n := ((4700 + (41 * p)) + (i + 1))) mb (zadd (zadd rfl (zmul rfl rfl)) rfl) (by omega) (hw3 (i + 1) hlt).1 eX2_steep_36 ?_
    refine V_iadd eX2_steep_37 ?_
    refine M_sl (n := (20 + (wc S p (i + 1)))) mb (zadd rfl rfl) (by omega) rfl eX2_steep_38 ?_
    refine V_aload0 eX2_steep_39 rfl ?_
    refine M_ga mb rfl eX2_steep_40 fl_X2_8_2 ?_
    refine V_bipush (v := 20) (by decide) eX2_steep_43 ?_
    refine V_aload0 eX2_steep_45 rfl ?_
    refine M_ga mb rfl eX2_steep_46 fl_X2_8_2 ?_
    refine V_sipush (v := 4700) (by decide) eX2_steep_49 ?_
    refine V_bipush (v := 41) (by decide) eX2_steep_52 ?_
    refine V_iload1 eX2_steep_54 ?_
    refine V_imul eX2_steep_55 ?_
    refine V_iadd eX2_steep_56 ?_
    refine V_iload3 eX2_steep_57 ?_
    refine V_iadd eX2_steep_58 ?_
    refine V_iconst (v := 1) (by decide) eX2_steep_59 ?_
    refine V_isub eX2_steep_60 ?_
    refine M_sl (n := (4700 + 41 * p + i)) mb (zsub1 (n := 4700 + 41 * p + i) ((show _ = nI (4700 + 41 * p + (i + 1)) from zadd (zadd rfl (zmul rfl rfl)) rfl).trans (congrArg nI (by omega)))) (by omega) (hw3 i (by omega)).1 eX2_steep_61 ?_
    refine V_iadd eX2_steep_62 ?_
    refine M_sl (n := (20 + (wc S p i))) mb (zadd rfl rfl) (by omega) rfl eX2_steep_63 ?_
    refine V_isub eX2_steep_64 ?_
    refine C0_static eX2_steep_65 lmX2_size q2159 q2160 (c_sizeZ _ _) rfl rfl rfl rfl ?_
    refine V_aload0 eX2_steep_68 rfl ?_
    refine V_iconst (v := 0) (by decide) eX2_steep_69 ?_
    refine V_iload2 eX2_steep_70 ?_
    refine M_call mb eX2_steep_71 lmX2_rule q2091 q2093 rfl qs63 (c_rule mb _ _ ho) rfl rfl rfl rfl ?_
    refine V_if_icmple eX2_steep_74 (fun c74 => ?_) (fun c74 => ?_)
    · refine V_iincN3 rfl eX2_steep_79 rfl ?_
      refine V_goto eX2_steep_82 ?_
      exact ih (by omega) (by rw [hq, show wl - 1 - i = (wl - 1 - (i + 1)) + 1 by omega, zfirst, if_neg (by simp [pSteep, c74])])
    · refine V_iload3 eX2_steep_77 ?_
      exact V_ireturn eX2_steep_78 rfl (Rv.i (by rw [hq, show wl - 1 - i = (wl - 1 - (i + 1)) + 1 by omega, zfirst, if_pos (by simp [pSteep, c74])]))

theorem c_close {w : Wd} {h : Hp} {m : Nat} {ad : Nat → Nat} {A : Nat → Nat → Int32} {B : Nat → Nat → Int64} {F S : Nat → Int32} (mb : MB h m ad) (plan : Int32) (what : Int32) (d : Int32) {np : Nat} (hnp : S 2 = nI np) (hnp60 : np ≤ 60) (iw : ∀ p, p < np → S (370 + p) = 2 → Iw S p (sn S (850 + p))) {no : Nat} (ho : Ior S no) : Con w mX2_close cX2_close 5 0 0 [.ref m, .int plan, .int what, .int d] (ms h A B F S) (Rv (.int (o_close S plan what d).1) (ms h A B F (o_close S plan what d).2)) := by
  refine Con.of (by decide +kernel) rfl rfl ?_
  show V w mX2_close cX2_close 5 0 0 _ 0 [some (.ref m), some (.int plan), some (.int what), some (.int d)] [] _
  refine V_aload0 eX2_close_0 rfl ?_
  refine V_iload1 eX2_close_1 ?_
  refine V_iconst (v := 2) (by decide) eX2_close_2 ?_
  refine M_call mb eX2_close_3 lmX2_isOf q2119 q2121 rfl qs67 (c_isOf mb _ _ hnp hnp60) rfl rfl rfl rfl ?_
  refine V_ifeq eX2_close_6 (fun c6 => ?_) (fun c6 => ?_)
  · have hz := bI_0.mp c6
    refine V_iconst (v := -1) (by decide) eX2_close_18 ?_
    exact V_ireturn eX2_close_19 rfl (Rv.p (by clear mb iw ho; grind [o_close]))
  · have hz := bI_n0.mp c6
    obtain ⟨p, hp, rfl, hk⟩ := zof_get hz hnp hnp60
    have hcl : (nI p).toNatClampNeg = p := nI_clamp (by omega)
    refine V_iload2 eX2_close_9 ?_
    refine V_iconst (v := 0) (by decide) eX2_close_10 ?_
    refine V_iconst (v := 1) (by decide) eX2_close_11 ?_
    refine C0_static eX2_close_12 lmX2_in q1966 q1967 (c_in _ _ _ _) rfl rfl rfl rfl ?_
    refine V_ifne eX2_close_15 (fun c15 => ?_) (fun c15 => ?_)
    · refine V_iload3 eX2_close_20 ?_
      refine C0_static eX2_close_21 lmX2_isDay q1994 q1995 (c_isDay _ _) rfl rfl rfl rfl ?_
      refine V_ifne eX2_close_24 (fun c24 => ?_) (fun c24 => ?_)
      · refine V_iload2 eX2_close_32 ?_
        refine V_ifne eX2_close_33 (fun c33 => ?_) (fun c33 => ?_)
        · refine V_aload0 eX2_close_45 rfl ?_
          refine V_iload1 eX2_close_46 ?_
          refine V_iload3 eX2_close_47 ?_
          refine M_call mb eX2_close_48 lmX2_steep q2174 q2176 rfl qs75 (c_steep mb _ (p := p) (by omega) (iw p hp hk) ho) rfl rfl rfl rfl ?_
          exact V_ireturn eX2_close_51 rfl (Rv.p (by clear mb iw ho; grind [o_close]))
        · refine V_aload0 eX2_close_36 rfl ?_
          refine V_iload1 eX2_close_37 ?_
          refine V_iload3 eX2_close_38 ?_
          refine M_call mb eX2_close_39 lmX2_notClose q2170 q2172 rfl qs74 (c_notClose mb _ (p := p) (by omega) (iw p hp hk) ho) rfl rfl rfl rfl ?_
          refine V_goto eX2_close_42 ?_
          exact V_ireturn eX2_close_51 rfl (Rv.p (by clear mb iw ho; grind [o_close]))
      · refine V_bipush (v := -2) (by decide) eX2_close_27 ?_
        refine V_goto eX2_close_29 ?_
        exact V_ireturn eX2_close_51 rfl (Rv.p (by clear mb iw ho; grind [o_close]))
    · refine V_iconst (v := -1) (by decide) eX2_close_18 ?_
      exact V_ireturn eX2_close_19 rfl (Rv.p (by clear mb iw ho; grind [o_close]))

