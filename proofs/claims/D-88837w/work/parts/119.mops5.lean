theorem zpl_b (S : Nat → Int32) (p : Nat) (c : Int32) : ∀ n i, zpl S p c n i = -1 ∨ ∃ j, zpl S p c n i = nI j ∧ i ≤ j ∧ j < i + n ∧ S (4700 + 41 * p + j) = c
  | 0, i => Or.inl rfl
  | n + 1, i => by
    unfold zpl
    split
    · exact Or.inr ⟨i, rfl, by omega, by omega, by assumption⟩
    · rcases zpl_b S p c n (i + 1) with h | ⟨j, h1, h2, h3, h4⟩
      · exact Or.inl h
      · exact Or.inr ⟨j, h1, by omega, by omega, h4⟩
theorem zplace_b {S : Nat → Int32} {p wl : Nat} {c : Int32} (h : S (850 + p) = nI wl) (hw : wl ≤ 40) : zplace S p c = -1 ∨ ∃ j, zplace S p c = nI j ∧ j < wl := by
  unfold zplace
  rw [sn_of h (by omega)]
  rcases zpl_b S p c wl 0 with q | ⟨j, h1, -, h3, -⟩
  · exact Or.inl q
  · exact Or.inr ⟨j, h1, by omega⟩
/-- levels of a cell in another plan -/
def zlv (S : Nat → Int32) (b : Nat) (c : Int32) : Int32 := if zplace S b c = -1 then -1000000 else S (7160 + 41 * b + (zplace S b c).toNatClampNeg)
def pQua (S : Nat → Int32) (a b k : Nat) : Bool := decide (¬ S (7160 + 41 * a + k) = -1000000) && decide (¬ zlv S b (S (4700 + 41 * a + k)) = -1000000) && decide (¬ S (7160 + 41 * a + k) = zlv S b (S (4700 + 41 * a + k)))
def zqu (S : Nat → Int32) (a b : Nat) : Nat → Nat → Int32
  | 0, _ => -5
  | n + 1, i => if pQua S a b i = true then S (4700 + 41 * a + i) else zqu S a b n (i + 1)
def o_quarrel (S : Nat → Int32) (a b : Int32) : Int32 × (Nat → Int32) :=
  (if zof S a 2 = false ∨ zof S b 2 = false then -1 else if a = b then -2 else zqu S a.toNatClampNeg b.toNatClampNeg (sn S (850 + a.toNatClampNeg)) 0, S)
def fCl (S : Nat → Int32) (q : Nat) : Nat → Int32 → Int32 := fun p n => n + (if S (370 + p) = 6 ∧ ¬ zplace S q (S (550 + p)) = -1 then S (730 + p) else 0)
def zclaims (S : Nat → Int32) (q : Nat) : Int32 := zfold (fCl S q) (sn S 2) 0
def fIn (S : Nat → Int32) (q : Nat) (sort : Int32) : Nat → Int32 → Int32 := fun k n => n + (if S (100 + wc S q k) = sort then 1 else 0)
def zinway (S : Nat → Int32) (q : Nat) (sort : Int32) : Int32 := zfold (fIn S q sort) (sn S (850 + q)) 0
def o_bar (S : Nat → Int32) (a b : Int32) : Int32 × (Nat → Int32) :=
  if zof S a 3 = false ∨ zof S b 3 = false then (-1, S) else if a = b then (-2, S) else
  (if S (1100 + 60 * a.toNatClampNeg + b.toNatClampNeg) = 1 then 0 else 1, va_up (va_up S (1100 + 60 * a.toNatClampNeg + b.toNatClampNeg) 1) (1100 + 60 * b.toNatClampNeg + a.toNatClampNeg) 1)
def gdB (S : Nat → Int32) (p : Nat) : Bool := decide (S (910 + p) = -5) && decide (zopen S p (S 0) = -5) && decide (zsteep S p (S 0) = -5) && decide (S 0 ≤ zrule S 2 (S 0))
def fBl (S : Nat → Int32) (p : Int32) : Nat → Bool → Bool := fun q b => b && !(decide (S (370 + q) = 3) && decide (S (430 + q) = p))
def o_bill (S : Nat → Int32) (plan : Int32) : Int32 × (Nat → Int32) :=
  if zof S plan 2 = false then (-1, S) else if zfold (fBl S plan) (sn S 2) (gdB S plan.toNatClampNeg) = false then (-3, S) else if S 2 = 60 then (-4, S) else
  o_paper S 3 plan (S (550 + plan.toNatClampNeg)) (S (610 + plan.toNatClampNeg)) (S (670 + plan.toNatClampNeg)) (-1)
def fCa (S : Nat → Int32) (s : Int32) : Nat → Bool → Bool := fun q b => b && !(decide (S (370 + q) = 4) && decide (S (430 + q) = s) && decide (S 0 - S (490 + q) < zrule S 4 (S 0)))
def o_call (S : Nat → Int32) (s n : Int32) : Int32 × (Nat → Int32) :=
  if zof S s 1 = false then (-1, S) else if zin n 1 (zrule S 3 (S 0)) = 0 then (-2, S) else if zfold (fCa S s) (sn S 2) (!decide (S (790 + s.toNatClampNeg) = 1)) = false then (-3, S) else
  if S 2 = 60 then (-4, S) else o_paper S 4 s (-1) (-1) (-1) n
def o_lend (S : Nat → Int32) (s hol n : Int32) : Int32 × (Nat → Int32) :=
  if zof S s 1 = false ∨ zin hol 0 7 = 0 then (-1, S) else if zin n 1 9999 = 0 then (-2, S) else if S (790 + s.toNatClampNeg) = 1 ∨ ¬ n ≤ S (192 + hol.toNatClampNeg) then (-3, S) else if S 2 = 60 then (-4, S) else
  o_paper (va_up (va_up S (192 + hol.toNatClampNeg) (S (192 + hol.toNatClampNeg) - n)) (11502 + sI S s) (S (11502 + sI S s) + n)) 5 s hol (-1) (-1) n
def o_known (S : Nat → Int32) (p d : Int32) : Int32 × (Nat → Int32) :=
  (if zin p 0 (S 2 - 1) = 0 ∨ zin d 0 (S 0 - 1) = 0 then -1 else if S (370 + p.toNatClampNeg) = 1 then S (11840 + 1000 * sI S p + d.toNatClampNeg) else if S (370 + p.toNatClampNeg) = 3 then S (23840 + 1000 * p.toNatClampNeg + d.toNatClampNeg) else -1, S)
theorem c_quarrel {w : Wd} {h : Hp} {m : Nat} {ad : Nat → Nat} {A : Nat → Nat → Int32} {B : Nat → Nat → Int64} {F S : Nat → Int32} (mb : MB h m ad) (a : Int32) (b : Int32) {np : Nat} (hnp : S 2 = nI np) (hnp60 : np ≤ 60) (iw : ∀ p, p < np → S (370 + p) = 2 → Iw S p (sn S (850 + p))) : Con w mX2_quarrel cX2_quarrel 5 0 0 [.ref m, .int a, .int b] (ms h A B F S) (Rv (.int (o_quarrel S a b).1) (ms h A B F (o_quarrel S a b).2)) := by
  refine Con.of (by decide +kernel) rfl rfl ?_
  show V w mX2_quarrel cX2_quarrel 5 0 0 _ 0 [some (.ref m), some (.int a), some (.int b), none, none, none, none, none] [] _
  refine V_aload0 eX2_quarrel_0 rfl ?_
  refine V_iload1 eX2_quarrel_1 ?_
  refine V_iconst (v := 2) (by decide) eX2_quarrel_2 ?_
  refine M_call mb eX2_quarrel_3 lmX2_isOf q2119 q2121 rfl qs67 (c_isOf mb _ _ hnp hnp60) rfl rfl rfl rfl ?_
  refine V_ifeq eX2_quarrel_6 (fun c6 => ?_) (fun c6 => ?_)
  · have hz := bI_0.mp c6
    refine V_iconst (v := -1) (by decide) eX2_quarrel_18 ?_
    exact V_ireturn eX2_quarrel_19 rfl (Rv.p (by clear mb iw; simp [o_quarrel, *]))
  · have hzx := bI_n0.mp c6
    obtain ⟨x, hx, rfl, hkx⟩ := zof_get hzx hnp hnp60
    have hcx : (nI x).toNatClampNeg = x := nI_clamp (by omega)
    refine V_aload0 eX2_quarrel_9 rfl ?_
    refine V_iload2 eX2_quarrel_10 ?_
    refine V_iconst (v := 2) (by decide) eX2_quarrel_11 ?_
    refine M_call mb eX2_quarrel_12 lmX2_isOf q2119 q2121 rfl qs67 (c_isOf mb _ _ hnp hnp60) rfl rfl rfl rfl ?_
    refine V_ifne eX2_quarrel_15 (fun c15 => ?_) (fun c15 => ?_)
    · have hzy := bI_n0.mp c15
      obtain ⟨y, hy, rfl, hky⟩ := zof_get hzy hnp hnp60
      have hcy : (nI y).toNatClampNeg = y := nI_clamp (by omega)
      refine V_iload1 eX2_quarrel_20 ?_
      refine V_iload2 eX2_quarrel_21 ?_
      refine V_if_icmpne eX2_quarrel_22 (fun c22 => ?_) (fun c22 => ?_)
      · obtain ⟨wl, hwl⟩ : ∃ wl, wl = sn S (850 + x) := ⟨_, rfl⟩
        have hw := iw x hx hkx
        rw [← hwl] at hw
        obtain ⟨hw1, hw2, hw3⟩ := hw
        refine V_iconst (v := 0) (by decide) eX2_quarrel_28 ?_
        refine V_istore3 rfl eX2_quarrel_29 rfl ?_
        refine zloop (P := fun i => ∀ (o4 o5 o6 o7 : Option Value), zqu S x y wl 0 = zqu S x y (wl - i) i → V w mX2_quarrel cX2_quarrel 5 0 0 (ms h A B F S) 30 [some (.ref m), some (.int (nI x)), some (.int (nI y)), some (.int (nI i)), o4, o5, o6, o7] [] _) wl (fun i hi ih o4 o5 o6 o7 hq => ?_) 0 (Nat.zero_le _) none none none none rfl
        refine V_iload3 eX2_quarrel_30 ?_
        refine V_aload0 eX2_quarrel_31 rfl ?_
        refine M_ga mb rfl eX2_quarrel_32 fl_X2_8_2 ?_
        refine V_sipush (v := 850) (by decide) eX2_quarrel_35 ?_
        refine V_iload1 eX2_quarrel_38 ?_
        refine V_iadd eX2_quarrel_39 ?_
        refine M_sl (n := (850 + x)) mb (zadd rfl rfl) (by omega) hw1 eX2_quarrel_40 ?_
        refine V_if_icmpge eX2_quarrel_41 (fun c41 => ?_) (fun c41 => ?_)
        · have e : i = wl := by have := nle c41 (by omega) (by omega); omega
          refine V_bipush (v := -5) (by decide) eX2_quarrel_146 ?_
          exact V_ireturn eX2_quarrel_148 rfl (Rv.p (by rw [e, Nat.sub_self, zqu] at hq; clear mb iw ih; simp [o_quarrel, ← hwl, hq, hzx, hzy, c22, hcx, hcy]))
        · have hlt := nnle c41 (by omega) (by omega)
          refine V_aload0 eX2_quarrel_44 rfl ?_
          refine M_ga mb rfl eX2_quarrel_45 fl_X2_8_2 ?_
          refine V_sipush (v := 4700) (by decide) eX2_quarrel_48 ?_
          refine V_bipush (v := 41) (by decide) eX2_quarrel_51 ?_
          refine V_iload1 eX2_quarrel_53 ?_
          refine V_imul eX2_quarrel_54 ?_
          refine V_iadd eX2_quarrel_55 ?_
          refine V_iload3 eX2_quarrel_56 ?_
          refine V_iadd eX2_quarrel_57 ?_
          refine M_sl (n := ((4700 + (41 * x)) + i)) mb (zadd (zadd rfl (zmul rfl rfl)) rfl) (by omega) rfl eX2_quarrel_58 ?_
          refine V_istore4 rfl eX2_quarrel_59 rfl ?_
          refine V_aload0 eX2_quarrel_61 rfl ?_
          refine V_iload2 eX2_quarrel_62 ?_
          refine V_iload4 eX2_quarrel_63 ?_
          refine M_call mb eX2_quarrel_65 lmX2_placeIn q2137 q2139 rfl qs70 (c_placeIn mb (p := y) (by omega) (iw y hy hky).1 (iw y hy hky).2.1) rfl rfl rfl rfl ?_
          refine V_istore5 rfl eX2_quarrel_68 rfl ?_
          refine V_aload0 eX2_quarrel_70 rfl ?_
          refine M_ga mb rfl eX2_quarrel_71 fl_X2_8_2 ?_
          refine V_sipush (v := 7160) (by decide) eX2_quarrel_74 ?_
          refine V_bipush (v := 41) (by decide) eX2_quarrel_77 ?_
          refine V_iload1 eX2_quarrel_79 ?_
          refine V_imul eX2_quarrel_80 ?_
          refine V_iadd eX2_quarrel_81 ?_
          refine V_iload3 eX2_quarrel_82 ?_
          refine V_iadd eX2_quarrel_83 ?_
          refine M_sl (n := ((7160 + (41 * x)) + i)) mb (zadd (zadd rfl (zmul rfl rfl)) rfl) (by omega) rfl eX2_quarrel_84 ?_
          refine V_istore6 rfl eX2_quarrel_85 rfl ?_
          refine V_iload5 eX2_quarrel_87 ?_
          refine V_iconst (v := -1) (by decide) eX2_quarrel_89 ?_
          refine V_if_icmpne eX2_quarrel_90 (fun c90 => ?_) (fun c90 => ?_)
          · obtain ⟨j, hj1, hj2⟩ : ∃ j, zplace S y (S (4700 + 41 * x + i)) = nI j ∧ j < 40 := by
              rcases zplace_b (c := S (4700 + 41 * x + i)) (iw y hy hky).1 (iw y hy hky).2.1 with q | ⟨j, q1, q2⟩
              · exact absurd q c90
              · exact ⟨j, q1, by have := (iw y hy hky).2.1; omega⟩
            have hjc : (zplace S y (S (4700 + 41 * x + i))).toNatClampNeg = j := by rw [hj1]; exact nI_clamp (by omega)
            refine V_aload0 eX2_quarrel_98 rfl ?_
            refine M_ga mb rfl eX2_quarrel_99 fl_X2_8_2 ?_
            refine V_sipush (v := 7160) (by decide) eX2_quarrel_102 ?_
            refine V_bipush (v := 41) (by decide) eX2_quarrel_105 ?_
            refine V_iload2 eX2_quarrel_107 ?_
            refine V_imul eX2_quarrel_108 ?_
            refine V_iadd eX2_quarrel_109 ?_
            refine V_iload5 eX2_quarrel_110 ?_
            refine V_iadd eX2_quarrel_112 ?_
            refine M_sl (n := ((7160 + (41 * y)) + j)) mb (zadd (zadd rfl (zmul rfl rfl)) hj1) (by omega) rfl eX2_quarrel_113 ?_
            refine V_istore7 rfl eX2_quarrel_114 rfl ?_
            refine V_iload6 eX2_quarrel_116 ?_
            refine V_ldc (v := -1000000) eX2_quarrel_118 q2145 ?_
            refine V_if_icmpeq eX2_quarrel_120 (fun c120 => ?_) (fun c120 => ?_)
            · refine V_iincN3 rfl eX2_quarrel_140 rfl ?_
              refine V_goto eX2_quarrel_143 ?_
              exact ih hlt _ _ _ _ (by rw [hq, show wl - i = (wl - (i + 1)) + 1 by omega, zqu, if_neg (by simp [pQua, zlv, c120])])
            · refine V_iload7 eX2_quarrel_123 ?_
              refine V_ldc (v := -1000000) eX2_quarrel_125 q2145 ?_
              refine V_if_icmpeq eX2_quarrel_127 (fun c127 => ?_) (fun c127 => ?_)
              · refine V_iincN3 rfl eX2_quarrel_140 rfl ?_
                refine V_goto eX2_quarrel_143 ?_
                exact ih hlt _ _ _ _ (by rw [hq, show wl - i = (wl - (i + 1)) + 1 by omega, zqu, if_neg (by simp [pQua, zlv, c90, hjc, c127])])
              · refine V_iload6 eX2_quarrel_130 ?_
                refine V_iload7 eX2_quarrel_132 ?_
                refine V_if_icmpeq eX2_quarrel_134 (fun c134 => ?_) (fun c134 => ?_)
                · refine V_iincN3 rfl eX2_quarrel_140 rfl ?_
                  refine V_goto eX2_quarrel_143 ?_
                  exact ih hlt _ _ _ _ (by rw [hq, show wl - i = (wl - (i + 1)) + 1 by omega, zqu, if_neg (by simp [pQua, zlv, c90, hjc, c134])])
                · refine V_iload4 eX2_quarrel_137 ?_
                  exact V_ireturn eX2_quarrel_139 rfl (Rv.p (by
                    have hp : pQua S x y i = true := by simp [pQua, zlv, c90, hjc, c120, c127, c134]
                    rw [show wl - i = (wl - (i + 1)) + 1 by omega, zqu, if_pos hp] at hq
                    clear mb iw ih; simp [o_quarrel, ← hwl, hq, hzx, hzy, c22, hcx, hcy]))
          · refine V_ldc (v := -1000000) eX2_quarrel_93 q2145 ?_
            refine V_goto eX2_quarrel_95 ?_
            refine V_istore7 rfl eX2_quarrel_114 rfl ?_
            refine V_iload6 eX2_quarrel_116 ?_
            refine V_ldc (v := -1000000) eX2_quarrel_118 q2145 ?_
            refine V_if_icmpeq eX2_quarrel_120 (fun c120 => ?_) (fun c120 => ?_)
            · refine V_iincN3 rfl eX2_quarrel_140 rfl ?_
              refine V_goto eX2_quarrel_143 ?_
              exact ih hlt _ _ _ _ (by rw [hq, show wl - i = (wl - (i + 1)) + 1 by omega, zqu, if_neg (by simp [pQua, zlv, c120])])
            · refine V_iload7 eX2_quarrel_123 ?_
              refine V_ldc (v := -1000000) eX2_quarrel_125 q2145 ?_
              refine V_if_icmpeq eX2_quarrel_127 (fun c127 => ?_) (fun c127 => absurd c127 (fun q => q rfl))
              refine V_iincN3 rfl eX2_quarrel_140 rfl ?_
              refine V_goto eX2_quarrel_143 ?_
              exact ih hlt _ _ _ _ (by rw [hq, show wl - i = (wl - (i + 1)) + 1 by omega, zqu, if_neg (by simp [pQua, zlv, c90, c127])])
      · refine V_bipush (v := -2) (by decide) eX2_quarrel_25 ?_
        exact V_ireturn eX2_quarrel_27 rfl (Rv.p (by clear mb iw; simp [o_quarrel, *]))
    · have hz := bI_0.mp c15
      refine V_iconst (v := -1) (by decide) eX2_quarrel_18 ?_
      exact V_ireturn eX2_quarrel_19 rfl (Rv.p (by clear mb iw; simp [o_quarrel, *]))

theorem c_claims {w : Wd} {h : Hp} {m : Nat} {ad : Nat → Nat} {A : Nat → Nat → Int32} {B : Nat → Nat → Int64} {F S : Nat → Int32} (mb : MB h m ad) {b q wl : Nat} (hb : b < 60) (hof : S (430 + b) = nI q) (hq : q < 60) (hw1 : S (850 + q) = nI wl) (hw2 : wl ≤ 40) {np : Nat} (hnp : S 2 = nI np) (hnp60 : np ≤ 60) : Con w mX2_claims cX2_claims 3 0 0 [.ref m, .int (nI b)] (ms h A B F S) (Rv (.int (zclaims S q)) (ms h A B F S)) := by
  refine Con.of (by decide +kernel) rfl rfl ?_
  show V w mX2_claims cX2_claims 3 0 0 _ 0 [some (.ref m), some (.int (nI b)), none, none, none] [] _
  have hs := sn_of hnp (by omega)
  refine V_aload0 eX2_claims_0 rfl ?_
  refine M_ga mb rfl eX2_claims_1 fl_X2_8_2 ?_
  refine V_sipush (v := 430) (by decide) eX2_claims_4 ?_
  refine V_iload1 eX2_claims_7 ?_
  refine V_iadd eX2_claims_8 ?_
  refine M_sl (n := (430 + b)) mb (zadd rfl rfl) (by omega) hof eX2_claims_9 ?_
  refine V_istore2 rfl eX2_claims_10 rfl ?_
  refine V_iconst (v := 0) (by decide) eX2_claims_11 ?_
  refine V_istore3 rfl eX2_claims_12 rfl ?_
  refine V_iconst (v := 0) (by decide) eX2_claims_13 ?_
  refine V_istore4 rfl eX2_claims_14 rfl ?_
  refine zloop (P := fun i => ∀ acc : Int32, acc = zfold (fCl S q) i 0 → V w mX2_claims cX2_claims 3 0 0 (ms h A B F S) 16 [some (.ref m), some (.int (nI b)), some (.int (nI q)), some (.int acc), some (.int (nI i))] [] _) np (fun i hi ih acc ha => ?_) 0 (Nat.zero_le _) 0 rfl
  refine V_iload4 eX2_claims_16 ?_
  refine V_aload0 eX2_claims_18 rfl ?_
  refine M_ga mb rfl eX2_claims_19 fl_X2_8_2 ?_
  refine V_iconst (v := 2) (by decide) eX2_claims_22 ?_
  refine M_sl (n := 2) mb rfl (by omega) hnp eX2_claims_23 ?_
  refine V_if_icmpge eX2_claims_24 (fun c24 => ?_) (fun c24 => ?_)
  · have e : i = np := by have := nle c24 (by omega) (by omega); omega
    refine V_iload3 eX2_claims_86 ?_
    exact V_ireturn eX2_claims_87 rfl (Rv.i (by rw [ha, e, zclaims, hs]))
  · have hlt := nnle c24 (by omega) (by omega)
    refine V_iload3 eX2_claims_27 ?_
    refine V_aload0 eX2_claims_28 rfl ?_
    refine M_ga mb rfl eX2_claims_29 fl_X2_8_2 ?_
    refine V_sipush (v := 370) (by decide) eX2_claims_32 ?_
    refine V_iload4 eX2_claims_35 ?_
    refine V_iadd eX2_claims_37 ?_
    refine M_sl (n := (370 + i)) mb (zadd rfl rfl) (by omega) rfl eX2_claims_38 ?_
    refine V_bipush (v := 6) (by decide) eX2_claims_39 ?_
    refine V_if_icmpne eX2_claims_41 (fun c41 => ?_) (fun c41 => ?_)
    · refine V_iconst (v := 0) (by decide) eX2_claims_77 ?_
      refine V_iadd eX2_claims_78 ?_
      refine V_istore3 rfl eX2_claims_79 rfl ?_
      refine V_iincN4 rfl eX2_claims_80 rfl ?_
      refine V_goto eX2_claims_83 ?_
      exact ih hlt _ (by rw [ha, zfold, fCl]; simp [c41])
    · refine V_aload0 eX2_claims_44 rfl ?_
      refine V_iload2 eX2_claims_45 ?_
      refine V_aload0 eX2_claims_46 rfl ?_
      refine M_ga mb rfl eX2_claims_47 fl_X2_8_2 ?_
      refine V_sipush (v := 550) (by decide) eX2_claims_50 ?_
      refine V_iload4 eX2_claims_53 ?_
      refine V_iadd eX2_claims_55 ?_
      refine M_sl (n := (550 + i)) mb (zadd rfl rfl) (by omega) rfl eX2_claims_56 ?_
      refine M_call mb eX2_claims_57 lmX2_isInWay q2133 q2135 rfl qs69 (c_isInWay mb (p := q) (by omega) hw1 hw2) rfl rfl rfl rfl ?_
      refine V_ifeq eX2_claims_60 (fun c60 => ?_) (fun c60 => ?_)
      · have hz : zplace S q (S (550 + i)) = -1 := by simpa [bI] using c60
        refine V_iconst (v := 0) (by decide) eX2_claims_77 ?_
        refine V_iadd eX2_claims_78 ?_
        refine V_istore3 rfl eX2_claims_79 rfl ?_
        refine V_iincN4 rfl eX2_claims_80 rfl ?_
        refine V_goto eX2_claims_83 ?_
        exact ih hlt _ (by rw [ha, zfold, fCl]; simp [c41, hz])
      · have hz : ¬ zplace S q (S (550 + i)) = -1 := by simpa [bI] using c60
        refine V_aload0 eX2_claims_63 rfl ?_
        refine M_ga mb rfl eX2_claims_64 fl_X2_8_2 ?_
        refine V_sipush (v := 730) (by decide) eX2_claims_67 ?_
        refine V_iload4 eX2_claims_70 ?_
        refine V_iadd eX2_claims_72 ?_
        refine M_sl (n := (730 + i)) mb (zadd rfl rfl) (by omega) rfl eX2_claims_73 ?_
        refine V_goto eX2_claims_74 ?_
        refine V_iadd eX2_claims_78 ?_
        refine V_istore3 rfl eX2_claims_79 rfl ?_
        refine V_iincN4 rfl eX2_claims_80 rfl ?_
        refine V_goto eX2_claims_83 ?_
        exact ih hlt _ (by rw [ha, zfold, fCl]; simp [c41, hz])

theorem c_inWay {w : Wd} {h : Hp} {m : Nat} {ad : Nat → Nat} {A : Nat → Nat → Int32} {B : Nat → Nat → Int64} {F S : Nat → Int32} (mb : MB h m ad) {b q wl : Nat} {sort : Int32} (hb : b < 60) (hof : S (430 + b) = nI q) (hq : q < 60) (hw : Iw S q wl) : Con w mX2_inWay cX2_inWay 1 0 0 [.ref m, .int (nI b), .int sort] (ms h A B F S) (Rv (.int (zinway S q sort)) (ms h A B F S)) := by
  refine Con.of (by decide +kernel) rfl rfl ?_
  show V w mX2_inWay cX2_inWay 1 0 0 _ 0 [some (.ref m), some (.int (nI b)), some (.int sort), none, none, none] [] _
  obtain ⟨hw1, hw2, hw3⟩ := hw
  have hs := sn_of hw1 (by omega)
  refine V_aload0 eX2_inWay_0 rfl ?_
  refine M_ga mb rfl eX2_inWay_1 fl_X2_8_2 ?_
  refine V_sipush (v := 430) (by decide) eX2_inWay_4 ?_
  refine V_iload1 eX2_inWay_7 ?_
  refine V_iadd eX2_inWay_8 ?_
  refine M_sl (n := (430 + b)) mb (zadd rfl rfl) (by omega) hof eX2_inWay_9 ?_
  refine V_istore3 rfl eX2_inWay_10 rfl ?_
  refine V_iconst (v := 0) (by decide) eX2_inWay_11 ?_
  refine V_istore4 rfl eX2_inWay_12 rfl ?_
  refine V_iconst (v := 0) (by decide) eX2_inWay_14 ?_
  refine V_istore5 rfl eX2_inWay_15 rfl ?_
  refine zloop (P := fun i => ∀ acc : Int32, acc = zfold (fIn S q sort) i 0 → V w mX2_inWay cX2_inWay 1 0 0 (ms h A B F S) 17 [some (.ref m), some (.int (nI b)), some (.int sort), some (.int (nI q)), some (.int acc), some (.int (nI i))] [] _) wl (fun i hi ih acc ha => ?_) 0 (Nat.zero_le _) 0 rfl
  refine V_iload5 eX2_inWay_17 ?_
  refine V_aload0 eX2_inWay_19 rfl ?_
  refine M_ga mb rfl eX2_inWay_20 fl_X2_8_2 ?_
  refine V_sipush (v := 850) (by decide) eX2_inWay_23 ?_
  refine V_iload3 eX2_inWay_26 ?_
  refine V_iadd eX2_inWay_27 ?_
  refine M_sl (n := (850 + q)) mb (zadd rfl rfl) (by omega) hw1 eX2_inWay_28 ?_
  refine V_if_icmpge eX2_inWay_29 (fun c29 => ?_) (fun c29 => ?_)
  · have e : i = wl := by have := nle c29 (by omega) (by omega); omega
    refine V_iload4 eX2_inWay_76 ?_
    exact V_ireturn eX2_inWay_78 rfl (Rv.i (by rw [ha, e, zinway, hs]))
  · have hlt := nnle c29 (by omega) (by omega)
    have hcb := (hw3 i hlt).2
    refine V_iload4 eX2_inWay_32 ?_
    refine V_aload0 eX2_inWay_34 rfl ?_
    refine M_ga mb rfl eX2_inWay_35 fl_X2_8_2 ?_
    refine V_bipush (v := 100) (by decide) eX2_inWay_38 ?_
    refine V_aload0 eX2_inWay_40 rfl ?_
    refine M_ga mb rfl eX2_inWay_41 fl_X2_8_2 ?_
    refine V_sipush (v := 4700) (by decide) eX2_inWay_44 ?_
    refine V_bipush (v := 41) (by decide) eX2_inWay_47 ?_
    refine V_iload3 eX2_inWay_49 ?_
    refine V_imul eX2_inWay_50 ?_
    refine V_iadd eX2_inWay_51 ?_
    refine V_iload5 eX2_inWay_52 ?_
    refine V_iadd eX2_inWay_54 ?_
    refine M_sl (n := ((4700 + (41 * q)) + i)) mb (zadd (zadd rfl (zmul rfl rfl)) rfl) (by omega) (hw3 i hlt).1 eX2_inWay_55 ?_
    refine V_iadd eX2_inWay_56 ?_
    refine M_sl (n := (100 + (wc S q i))) mb (zadd rfl rfl) (by omega) rfl eX2_inWay_57 ?_
    refine V_iload2 eX2_inWay_58 ?_
    refine V_if_icmpne eX2_inWay_59 (fun c59 => ?_) (fun c59 => ?_)
    · refine V_iconst (v := 0) (by decide) eX2_inWay_66 ?_
      refine V_iadd eX2_inWay_67 ?_
      refine V_istore4 rfl eX2_inWay_68 rfl ?_
      refine V_iincN5 rfl eX2_inWay_70 rfl ?_
      refine V_goto eX2_inWay_73 ?_
      exact ih hlt _ (by rw [ha, zfold, fIn]; simp [c59])
    · refine V_iconst (v := 1) (by decide) eX2_inWay_62 ?_
      refine V_goto eX2_inWay_63 ?_
      refine V_iadd eX2_inWay_67 ?_
      refine V_istore4 rfl eX2_inWay_68 rfl ?_
      refine V_iincN5 rfl eX2_inWay_70 rfl ?_
      refine V_goto eX2_inWay_73 ?_
      exact ih hlt _ (by rw [ha, zfold, fIn]; simp [c59])

theorem c_bar {w : Wd} {h : Hp} {m : Nat} {ad : Nat → Nat} {A : Nat → Nat → Int32} {B : Nat → Nat → Int64} {F S : Nat → Int32} (mb : MB h m ad) (a : Int32) (b : Int32) {np : Nat} (hnp : S 2 = nI np) (hnp60 : np ≤ 60) : Con w mX2_bar cX2_bar 5 0 0 [.ref m, .int a, .int b] (ms h A B F S) (Rv (.int (o_bar S a b).1) (ms h A B F (o_bar S a b).2)) := by
  refine Con.of (by decide +kernel) rfl rfl ?_
  show V w mX2_bar cX2_bar 5 0 0 _ 0 [some (.ref m), some (.int a), some (.int b), none] [] _
  refine V_aload0 eX2_bar_0 rfl ?_
  refine V_iload1 eX2_bar_1 ?_
  refine V_iconst (v := 3) (by decide) eX2_bar_2 ?_
  refine M_call mb eX2_bar_3 lmX2_isOf q2119 q2121 rfl qs67 (c_isOf mb _ _ hnp hnp60) rfl rfl rfl rfl ?_
  refine V_ifeq eX2_bar_6 (fun c6 => ?_) (fun c6 => ?_)
  · have hz := bI_0.mp c6
    refine V_iconst (v := -1) (by decide) eX2_bar_18 ?_
    exact V_ireturn eX2_bar_19 rfl (Rv.p (by clear mb; grind [o_bar]))
  · have hzx := bI_n0.mp c6
    obtain ⟨x, hx, rfl, hkx⟩ := zof_get hzx hnp hnp60
    have hcx : (nI x).toNatClampNeg = x := nI_clamp (by omega)
    refine V_aload0 eX2_bar_9 rfl ?_
    refine V_iload2 eX2_bar_10 ?_
    refine V_iconst (v := 3) (by decide) eX2_bar_11 ?_
    refine M_call mb eX2_bar_12 lmX2_isOf q2119 q2121 rfl qs67 (c_isOf mb _ _ hnp hnp60) rfl rfl rfl rfl ?_
    refine V_ifne eX2_bar_15 (fun c15 => ?_) (fun c15 => ?_)
    · have hzy := bI_n0.mp c15
      obtain ⟨y, hy, rfl, hky⟩ := zof_get hzy hnp hnp60
      have hcy : (nI y).toNatClampNeg = y := nI_clamp (by omega)
      refine V_iload1 eX2_bar_20 ?_
      refine V_iload2 eX2_bar_21 ?_
      refine V_if_icmpne eX2_bar_22 (fun c22 => ?_) (fun c22 => ?_)
      · refine V_aload0 eX2_bar_28 rfl ?_
        refine V_iload1 eX2_bar_29 ?_
        refine V_iload2 eX2_bar_30 ?_
        refine M_call mb eX2_bar_31 lmX2_isBarred q2222 q2224 rfl qs81 (c_isBarred mb (a := x) (b := y) (by omega) (by omega)) rfl rfl rfl rfl ?_
        refine V_ifeq eX2_bar_34 (fun c34 => ?_) (fun c34 => ?_)
        · have hb : ¬ S (1100 + 60 * x + y) = 1 := by simpa [bI] using c34
          refine V_iconst (v := 1) (by decide) eX2_bar_41 ?_
          refine V_istore3 rfl eX2_bar_42 rfl ?_
          refine V_aload0 eX2_bar_43 rfl ?_
          refine M_ga mb rfl eX2_bar_44 fl_X2_8_2 ?_
          refine V_sipush (v := 1100) (by decide) eX2_bar_47 ?_
          refine V_bipush (v := 60) (by decide) eX2_bar_50 ?_
          refine V_iload1 eX2_bar_52 ?_
          refine V_imul eX2_bar_53 ?_
          refine V_iadd eX2_bar_54 ?_
          refine V_iload2 eX2_bar_55 ?_
          refine V_iadd eX2_bar_56 ?_
          refine V_iconst (v := 1) (by decide) eX2_bar_57 ?_
          refine M_ss (n := ((1100 + (60 * x)) + y)) mb (zadd (zadd rfl (zmul rfl rfl)) rfl) (by omega) eX2_bar_58 ?_
          refine V_aload0 eX2_bar_59 rfl ?_
          refine M_ga mb rfl eX2_bar_60 fl_X2_8_2 ?_
          refine V_sipush (v := 1100) (by decide) eX2_bar_63 ?_
          refine V_bipush (v := 60) (by decide) eX2_bar_66 ?_
          refine V_iload2 eX2_bar_68 ?_
          refine V_imul eX2_bar_69 ?_
          refine V_iadd eX2_bar_70 ?_
          refine V_iload1 eX2_bar_71 ?_
          refine V_iadd eX2_bar_72 ?_
          refine V_iconst (v := 1) (by decide) eX2_bar_73 ?_
          refine M_ss (n := ((1100 + (60 * y)) + x)) mb (zadd (zadd rfl (zmul rfl rfl)) rfl) (by omega) eX2_bar_74 ?_
          refine V_iload3 eX2_bar_75 ?_
          exact V_ireturn eX2_bar_76 rfl (Rv.p (by clear mb; grind [o_bar]))
        · have hb : S (1100 + 60 * x + y) = 1 := by simpa [bI] using c34
          refine V_iconst (v := 0) (by decide) eX2_bar_37 ?_
          refine V_goto eX2_bar_38 ?_
          refine V_istore3 rfl eX2_bar_42 rfl ?_
          refine V_aload0 eX2_bar_43 rfl ?_
          refine M_ga mb rfl eX2_bar_44 fl_X2_8_2 ?_
          refine V_sipush (v := 1100) (by decide) eX2_bar_47 ?_
          refine V_bipush (v := 60) (by decide) eX2_bar_50 ?_
          refine V_iload1 eX2_bar_52 ?_
          refine V_imul eX2_bar_53 ?_
          refine V_iadd eX2_bar_54 ?_
          refine V_iload2 eX2_bar_55 ?_
          refine V_iadd eX2_bar_56 ?_
          refine V_iconst (v := 1) (by decide) eX2_bar_57 ?_
          refine M_ss (n := ((1100 + (60 * x)) + y)) mb (zadd (zadd rfl (zmul rfl rfl)) rfl) (by omega) eX2_bar_58 ?_
          refine V_aload0 eX2_bar_59 rfl ?_
          refine M_ga mb rfl eX2_bar_60 fl_X2_8_2 ?_
          refine V_sipush (v := 1100) (by decide) eX2_bar_63 ?_
          refine V_bipush (v := 60) (by decide) eX2_bar_66 ?_
          refine V_iload2 eX2_bar_68 ?_
          refine V_imul eX2_bar_69 ?_
          refine V_iadd eX2_bar_70 ?_
          refine V_iload1 eX2_bar_71 ?_
          refine V_iadd eX2_bar_72 ?_
          refine V_iconst (v := 1) (by decide) eX2_bar_73 ?_
          refine M_ss (n := ((1100 + (60 * y)) + x)) mb (zadd (zadd rfl (zmul rfl rfl)) rfl) (by omega) eX2_bar_74 ?_
          refine V_iload3 eX2_bar_75 ?_
          exact V_ireturn eX2_bar_76 rfl (Rv.p (by clear mb; grind [o_bar]))
      · refine V_bipush (v := -2) (by decide) eX2_bar_25 ?_
        exact V_ireturn eX2_bar_27 rfl (Rv.p (by clear mb; grind [o_bar]))
    · have hz := bI_0.mp c15
      refine V_iconst (v := -1) (by decide) eX2_bar_18 ?_
      exact V_ireturn eX2_bar_19 rfl (Rv.p (by clear mb; grind [o_bar]))

theorem c_bill {w : Wd} {h : Hp} {m : Nat} {ad : Nat → Nat} {A : Nat → Nat → Int32} {B : Nat → Nat → Int64} {F S : Nat → Int32} (mb : MB h m ad) (plan : Int32) {np : Nat} (hnp : S 2 = nI np) (hnp60 : np ≤ 60) (iw : ∀ p, p < np → S (370 + p) = 2 → Iw S p (sn S (850 + p))) {no : Nat} (ho : Ior S no) : Con w mX2_bill cX2_bill 5 0 0 [.ref m, .int plan] (ms h A B F S) (Rv (.int (o_bill S plan).1) (ms h A B F (o_bill S plan).2)) := by
  refine Con.of (by decide +kernel) rfl rfl ?_
  show V w mX2_bill cX2_bill 5 0 0 _ 0 [some (.ref m), some (.int plan), none, none] [] _
  refine V_aload0 eX2_bill_0 rfl ?_
  refine V_iload1 eX2_bill_1 ?_
  refine V_iconst (v := 2) (by decide) eX2_bill_2 ?_
  refine M_call mb eX2_bill_3 lmX2_isOf q2119 q2121 rfl qs67 (c_isOf mb _ _ hnp hnp60) rfl rfl rfl rfl ?_
  refine V_ifne eX2_bill_6 (fun c6 => ?_) (fun c6 => ?_)
  · have hz := bI_n0.mp c6
    obtain ⟨p, hp, rfl, hk⟩ := zof_get hz hnp hnp60
    have hcl : (nI p).toNatClampNeg = p := nI_clamp (by omega)
    have J84 : ∀ g0 : Bool, g0 = gdB S p → V w mX2_bill cX2_bill 5 0 0 (ms h A B F S) 84 [some (.ref m), some (.int (nI p)), some (.int (bI g0)), none] [] (Rv (.int (o_bill S (nI p)).1) (ms h A B F (o_bill S (nI p)).2)) := by
      intro g0 hg0
      refine V_iconst (v := 0) (by decide) eX2_bill_84 ?_
      refine V_istore3 rfl eX2_bill_85 rfl ?_
      refine zloop (P := fun i => ∀ g : Bool, g = zfold (fBl S (nI p)) i g0 → V w mX2_bill cX2_bill 5 0 0 (ms h A B F S) 86 [some (.ref m), some (.int (nI p)), some (.int (bI g)), some (.int (nI i))] [] _) np (fun i hi ih g hg => ?_) 0 (Nat.zero_le _) g0 rfl
      refine V_iload3 eX2_bill_86 ?_
      refine V_aload0 eX2_bill_87 rfl ?_
      refine M_ga mb rfl eX2_bill_88 fl_X2_8_2 ?_
      refine V_iconst (v := 2) (by decide) eX2_bill_91 ?_
      refine M_sl (n := 2) mb rfl (by omega) hnp eX2_bill_92 ?_
      refine V_if_icmpge eX2_bill_93 (fun c93 => ?_) (fun c93 => ?_)
      · have e : i = np := by have := nle c93 (by omega) (by omega); omega
        have hs := sn_of hnp (by omega)
        rw [e, hg0] at hg
        have hz2 := hg.symm
        clear hg
        refine V_iload2 eX2_bill_140 ?_
        refine V_ifne eX2_bill_141 (fun c141 => ?_) (fun c141 => ?_)
        · have hgt := bI_n0.mp c141
          refine V_aload0 eX2_bill_147 rfl ?_
          refine M_ga mb rfl eX2_bill_148 fl_X2_8_2 ?_
          refine V_iconst (v := 2) (by decide) eX2_bill_151 ?_
          refine M_sl (n := 2) mb rfl (by omega) hnp eX2_bill_152 ?_
          refine V_bipush (v := 60) (by decide) eX2_bill_153 ?_
          refine V_if_icmpne eX2_bill_155 (fun c155 => ?_) (fun c155 => ?_)
          · have hne : np ≠ 60 := fun q => c155 (by rw [q]; rfl)
            refine V_aload0 eX2_bill_163 rfl ?_
            refine V_iconst (v := 3) (by decide) eX2_bill_164 ?_
            refine V_iload1 eX2_bill_165 ?_
            refine V_aload0 eX2_bill_166 rfl ?_
            refine M_ga mb rfl eX2_bill_167 fl_X2_8_2 ?_
            refine V_sipush (v := 550) (by decide) eX2_bill_170 ?_
            refine V_iload1 eX2_bill_173 ?_
            refine V_iadd eX2_bill_174 ?_
            refine M_sl (n := (550 + p)) mb (zadd rfl rfl) (by omega) rfl eX2_bill_175 ?_
            refine V_aload0 eX2_bill_176 rfl ?_
            refine M_ga mb rfl eX2_bill_177 fl_X2_8_2 ?_
            refine V_sipush (v := 610) (by decide) eX2_bill_180 ?_
            refine V_iload1 eX2_bill_183 ?_
            refine V_iadd eX2_bill_184 ?_
            refine M_sl (n := (610 + p)) mb (zadd rfl rfl) (by omega) rfl eX2_bill_185 ?_
            refine V_aload0 eX2_bill_186 rfl ?_
            refine M_ga mb rfl eX2_bill_187 fl_X2_8_2 ?_
            refine V_sipush (v := 670) (by decide) eX2_bill_190 ?_
            refine V_iload1 eX2_bill_193 ?_
            refine V_iadd eX2_bill_194 ?_
            refine M_sl (n := (670 + p)) mb (zadd rfl rfl) (by omega) rfl eX2_bill_195 ?_
            refine V_iconst (v := -1) (by decide) eX2_bill_196 ?_
            refine M_call mb eX2_bill_197 lmX2_paper q2111 q2113 rfl qs66 (c_paper mb _ _ _ _ _ _ hnp (by omega)) rfl rfl rfl rfl ?_
            exact V_ireturn eX2_bill_200 rfl (Rv.p (by clear mb iw ho; (try clear ih); simp [o_bill, *]))
          · refine V_bipush (v := -4) (by decide) eX2_bill_158 ?_
            refine V_goto eX2_bill_160 ?_
            exact V_ireturn eX2_bill_200 rfl (Rv.p (by clear mb iw ho; (try clear ih); simp [o_bill, *]))
        · have hgf := bI_0.mp c141
          refine V_bipush (v := -3) (by decide) eX2_bill_144 ?_
          exact V_ireturn eX2_bill_146 rfl (Rv.p (by clear mb iw ho; (try clear ih); simp [o_bill, *]))
      · have hlt := nnle c93 (by omega) (by omega)
        refine V_iload2 eX2_bill_96 ?_
        refine V_ifeq eX2_bill_97 (fun c97 => ?_) (fun c97 => ?_)
        · have hgf := bI_0.mp c97
          refine V_iconst (v := 0) (by decide) eX2_bill_132 ?_
          refine V_istore2 rfl eX2_bill_133 rfl ?_
          refine V_iincN3 rfl eX2_bill_134 rfl ?_
          refine V_goto eX2_bill_137 ?_
          exact ih hlt false (by rw [zfold, ← hg]; simp [fBl, hgf])
        · have hgt := bI_n0.mp c97
          refine V_aload0 eX2_bill_100 rfl ?_
          refine M_ga mb rfl eX2_bill_101 fl_X2_8_2 ?_
          refine V_sipush (v := 370) (by decide) eX2_bill_104 ?_
          refine V_iload3 eX2_bill_107 ?_
          refine V_iadd eX2_bill_108 ?_
          refine M_sl (n := (370 + i)) mb (zadd rfl rfl) (by omega) rfl eX2_bill_109 ?_
          refine V_iconst (v := 3) (by decide) eX2_bill_110 ?_
          refine V_if_icmpne eX2_bill_111 (fun c111 => ?_) (fun c111 => ?_)
          · refine V_iconst (v := 1) (by decide) eX2_bill_128 ?_
            refine V_goto eX2_bill_129 ?_
            refine V_istore2 rfl eX2_bill_133 rfl ?_
            refine V_iincN3 rfl eX2_bill_134 rfl ?_
            refine V_goto eX2_bill_137 ?_
            exact ih hlt true (by rw [zfold, ← hg]; simp [fBl, hgt, c111])
          · refine V_aload0 eX2_bill_114 rfl ?_
            refine M_ga mb rfl eX2_bill_115 fl_X2_8_2 ?_
            refine V_sipush (v := 430) (by decide) eX2_bill_118 ?_
            refine V_iload3 eX2_bill_121 ?_
            refine V_iadd eX2_bill_122 ?_
            refine M_sl (n := (430 + i)) mb (zadd rfl rfl) (by omega) rfl eX2_bill_123 ?_
            refine V_iload1 eX2_bill_124 ?_
            refine V_if_icmpeq eX2_bill_125 (fun c125 => ?_) (fun c125 => ?_)
            · refine V_iconst (v := 0) (by decide) eX2_bill_132 ?_
              refine V_istore2 rfl eX2_bill_133 rfl ?_
              refine V_iincN3 rfl eX2_bill_134 rfl ?_
              refine V_goto eX2_bill_137 ?_
              exact ih hlt false (by rw [zfold, ← hg]; simp [fBl, c111, c125])
            · refine V_iconst (v := 1) (by decide) eX2_bill_128 ?_
              refine V_goto eX2_bill_129 ?_
              refine V_istore2 rfl eX2_bill_133 rfl ?_
              refine V_iincN3 rfl eX2_bill_134 rfl ?_
              refine V_goto eX2_bill_137 ?_
              exact ih hlt true (by rw [zfold, ← hg]; simp [fBl, hgt, c111, c125])
    refine V_aload0 eX2_bill_11 rfl ?_
    refine M_ga mb rfl eX2_bill_12 fl_X2_8_2 ?_
    refine V_sipush (v := 910) (by decide) eX2_bill_15 ?_
    refine V_iload1 eX2_bill_18 ?_
    refine V_iadd eX2_bill_19 ?_
    refine M_sl (n := (910 + p)) mb (zadd rfl rfl) (by omega) rfl eX2_bill_20 ?_
    refine V_bipush (v := -5) (by decide) eX2_bill_21 ?_
    refine V_if_icmpne eX2_bill_23 (fun c23 => ?_) (fun c23 => ?_)
    · refine V_iconst (v := 0) (by decide) eX2_bill_82 ?_
      refine V_istore2 rfl eX2_bill_83 rfl ?_
      exact J84 false (by first | (simp [gdB, c23]; done) | (simp [gdB, c39]; done) | (simp [gdB, c55]; done) | (have := zle_nlt.mpr c75; simp [gdB, this]; done) | (have := zlt_nle.mp c75; simp [gdB, c23, c39, c55, this]; done))
    · refine V_aload0 eX2_bill_26 rfl ?_
      refine V_iload1 eX2_bill_27 ?_
      refine V_aload0 eX2_bill_28 rfl ?_
      refine M_ga mb rfl eX2_bill_29 fl_X2_8_2 ?_
      refine V_iconst (v := 0) (by decide) eX2_bill_32 ?_
      refine M_sl (n := 0) mb rfl (by omega) rfl eX2_bill_33 ?_
      refine M_call mb eX2_bill_34 lmX2_notClose q2170 q2172 rfl qs74 (c_notClose mb _ (p := p) (by omega) (iw p hp hk) ho) rfl rfl rfl rfl ?_
      refine V_bipush (v := -5) (by decide) eX2_bill_37 ?_
      refine V_if_icmpne eX2_bill_39 (fun c39 => ?_) (fun c39 => ?_)
      · refine V_iconst (v := 0) (by decide) eX2_bill_82 ?_
        refine V_istore2 rfl eX2_bill_83 rfl ?_
        exact J84 false (by first | (simp [gdB, c23]; done) | (simp [gdB, c39]; done) | (simp [gdB, c55]; done) | (have := zle_nlt.mpr c75; simp [gdB, this]; done) | (have := zlt_nle.mp c75; simp [gdB, c23, c39, c55, this]; done))
      · refine V_aload0 eX2_bill_42 rfl ?_
        refine V_iload1 eX2_bill_43 ?_
        refine V_aload0 eX2_bill_44 rfl ?_
        refine M_ga mb rfl eX2_bill_45 fl_X2_8_2 ?_
        refine V_iconst (v := 0) (by decide) eX2_bill_48 ?_
        refine M_sl (n := 0) mb rfl (by omega) rfl eX2_bill_49 ?_
        refine M_call mb eX2_bill_50 lmX2_steep q2174 q2176 rfl qs75 (c_steep mb _ (p := p) (by omega) (iw p hp hk) ho) rfl rfl rfl rfl ?_
        refine V_bipush (v := -5) (by decide) eX2_bill_53 ?_
        refine V_if_icmpne eX2_bill_55 (fun c55 => ?_) (fun c55 => ?_)
        · refine V_iconst (v := 0) (by decide) eX2_bill_82 ?_
          refine V_istore2 rfl eX2_bill_83 rfl ?_
          exact J84 false (by first | (simp [gdB, c23]; done) | (simp [gdB, c39]; done) | (simp [gdB, c55]; done) | (have := zle_nlt.mpr c75; simp [gdB, this]; done) | (have := zlt_nle.mp c75; simp [gdB, c23, c39, c55, this]; done))
        · refine V_aload0 eX2_bill_58 rfl ?_
          refine M_ga mb rfl eX2_bill_59 fl_X2_8_2 ?_
          refine V_iconst (v := 0) (by decide) eX2_bill_62 ?_
          refine M_sl (n := 0) mb rfl (by omega) rfl eX2_bill_63 ?_
          refine V_aload0 eX2_bill_64 rfl ?_
          refine V_iconst (v := 2) (by decide) eX2_bill_65 ?_
          refine V_aload0 eX2_bill_66 rfl ?_
          refine M_ga mb rfl eX2_bill_67 fl_X2_8_2 ?_
          refine V_iconst (v := 0) (by decide) eX2_bill_70 ?_
          refine M_sl (n := 0) mb rfl (by omega) rfl eX2_bill_71 ?_
          refine M_call mb eX2_bill_72 lmX2_rule q2091 q2093 rfl qs63 (c_rule mb _ _ ho) rfl rfl rfl rfl ?_
          refine V_if_icmpgt eX2_bill_75 (fun c75 => ?_) (fun c75 => ?_)
          · refine V_iconst (v := 0) (by decide) eX2_bill_82 ?_
            refine V_istore2 rfl eX2_bill_83 rfl ?_
            exact J84 false (by first | (simp [gdB, c23]; done) | (simp [gdB, c39]; done) | (simp [gdB, c55]; done) | (have := zle_nlt.mpr c75; simp [gdB, this]; done) | (have := zlt_nle.mp c75; simp [gdB, c23, c39, c55, this]; done))
          · refine V_iconst (v := 1) (by decide) eX2_bill_78 ?_
            refine V_goto eX2_bill_79 ?_
            refine V_istore2 rfl eX2_bill_83 rfl ?_
            exact J84 true (by first | (simp [gdB, c23]; done) | (simp [gdB, c39]; done) | (simp [gdB, c55]; done) | (have := zle_nlt.mpr c75; simp [gdB, this]; done) | (have := zlt_nle.mp c75; simp [gdB, c23, c39, c55, this]; done))
  · have hz := bI_0.mp c6
    refine V_iconst (v := -1) (by decide) eX2_bill_9 ?_
    exact V_ireturn eX2_bill_10 rfl (Rv.p (by clear mb iw ho; (try clear ih); simp [o_bill, *]))

theorem c_call {w : Wd} {h : Hp} {m : Nat} {ad : Nat → Nat} {A : Nat → Nat → Int32} {B : Nat → Nat → Int64} {F S : Nat → Int32} (mb : MB h m ad) (sc : Int32) (n : Int32) {np : Nat} (hnp : S 2 = nI np) (hnp60 : np ≤ 60) {no : Nat} (ho : Ior S no) : Con w mX2_call cX2_call 5 0 0 [.ref m, .int sc, .int n] (ms h A B F S) (Rv (.int (o_call S sc n).1) (ms h A B F (o_call S sc n).2)) := by
  refine Con.of (by decide +kernel) rfl rfl ?_
  show V w mX2_call cX2_call 5 0 0 _ 0 [some (.ref m), some (.int sc), some (.int n), none, none] [] _
  refine V_aload0 eX2_call_0 rfl ?_
  refine V_iload1 eX2_call_1 ?_
  refine M_call mb eX2_call_2 lmX2_isScheme q2277 q2279 rfl qs86 (c_isScheme mb _ hnp hnp60) rfl rfl rfl rfl ?_
  refine V_ifne eX2_call_5 (fun c5 => ?_) (fun c5 => ?_)
  · have hz := bI_n0.mp c5
    obtain ⟨p, hp, rfl, hk⟩ := zof_get hz hnp hnp60
    have hcl : (nI p).toNatClampNeg = p := nI_clamp (by omega)
    refine V_iload2 eX2_call_10 ?_
    refine V_iconst (v := 1) (by decide) eX2_call_11 ?_
    refine V_aload0 eX2_call_12 rfl ?_
    refine V_iconst (v := 3) (by decide) eX2_call_13 ?_
    refine V_aload0 eX2_call_14 rfl ?_
    refine M_ga mb rfl eX2_call_15 fl_X2_8_2 ?_
    refine V_iconst (v := 0) (by decide) eX2_call_18 ?_
    refine M_sl (n := 0) mb rfl (by omega) rfl eX2_call_19 ?_
    refine M_call mb eX2_call_20 lmX2_rule q2091 q2093 rfl qs63 (c_rule mb _ _ ho) rfl rfl rfl rfl ?_
    refine C0_static eX2_call_23 lmX2_in q1966 q1967 (c_in _ _ _ _) rfl rfl rfl rfl ?_
    refine V_ifne eX2_call_26 (fun c26 => ?_) (fun c26 => ?_)
    · have J46 : ∀ g0 : Bool, g0 = !decide (S (790 + p) = 1) → V w mX2_call cX2_call 5 0 0 (ms h A B F S) 46 [some (.ref m), some (.int (nI p)), some (.int n), some (.int (bI g0)), none] [] (Rv (.int (o_call S (nI p) n).1) (ms h A B F (o_call S (nI p) n).2)) := by
        intro g0 hg0
        refine V_iconst (v := 0) (by decide) eX2_call_46 ?_
        refine V_istore4 rfl eX2_call_47 rfl ?_
        refine zloop (P := fun i => ∀ g : Bool, g = zfold (fCa S (nI p)) i g0 → V w mX2_call cX2_call 5 0 0 (ms h A B F S) 49 [some (.ref m), some (.int (nI p)), some (.int n), some (.int (bI g)), some (.int (nI i))] [] _) np (fun i hi ih g hg => ?_) 0 (Nat.zero_le _) g0 rfl
        refine V_iload4 eX2_call_49 ?_
        refine V_aload0 eX2_call_51 rfl ?_
        refine M_ga mb rfl eX2_call_52 fl_X2_8_2 ?_
        refine V_iconst (v := 2) (by decide) eX2_call_55 ?_
        refine M_sl (n := 2) mb rfl (by omega) hnp eX2_call_56 ?_
        refine V_if_icmpge eX2_call_57 (fun c57 => ?_) (fun c57 => ?_)
        · have e : i = np := by have := nle c57 (by omega) (by omega); omega
          have hs := sn_of hnp (by omega)
          rw [e, hg0] at hg
          have hz2 := hg.symm
          clear hg
          refine V_iload3 eX2_call_138 ?_
          refine V_ifne eX2_call_139 (fun c139 => ?_) (fun c139 => ?_)
          · have hgt := bI_n0.mp c139
            refine V_aload0 eX2_call_145 rfl ?_
            refine M_ga mb rfl eX2_call_146 fl_X2_8_2 ?_
            refine V_iconst (v := 2) (by decide) eX2_call_149 ?_
            refine M_sl (n := 2) mb rfl (by omega) hnp eX2_call_150 ?_
            refine V_bipush (v := 60) (by decide) eX2_call_151 ?_
            refine V_if_icmpne eX2_call_153 (fun c153 => ?_) (fun c153 => ?_)
            · have hne : np ≠ 60 := fun q => c153 (by rw [q]; rfl)
              refine V_aload0 eX2_call_161 rfl ?_
              refine V_iconst (v := 4) (by decide) eX2_call_162 ?_
              refine V_iload1 eX2_call_163 ?_
              refine V_iconst (v := -1) (by decide) eX2_call_164 ?_
              refine V_iconst (v := -1) (by decide) eX2_call_165 ?_
              refine V_iconst (v := -1) (by decide) eX2_call_166 ?_
              refine V_iload2 eX2_call_167 ?_
              refine M_call mb eX2_call_168 lmX2_paper q2111 q2113 rfl qs66 (c_paper mb _ _ _ _ _ _ hnp (by omega)) rfl rfl rfl rfl ?_
              exact V_ireturn eX2_call_171 rfl (Rv.p (by clear mb ho; (try clear ih); simp [o_call, *]))
            · refine V_bipush (v := -4) (by decide) eX2_call_156 ?_
              refine V_goto eX2_call_158 ?_
              exact V_ireturn eX2_call_171 rfl (Rv.p (by clear mb ho; (try clear ih); simp [o_call, *]))
          · have hgf := bI_0.mp c139
            refine V_bipush (v := -3) (by decide) eX2_call_142 ?_
            exact V_ireturn eX2_call_144 rfl (Rv.p (by clear mb ho; (try clear ih); simp [o_call, *]))
        · have hlt := nnle c57 (by omega) (by omega)
          refine V_iload3 eX2_call_60 ?_
          refine V_ifeq eX2_call_61 (fun c61 => ?_) (fun c61 => ?_)
          · have hgf := bI_0.mp c61
            refine V_iconst (v := 0) (by decide) eX2_call_130 ?_
            refine V_istore3 rfl eX2_call_131 rfl ?_
            refine V_iincN4 rfl eX2_call_132 rfl ?_
            refine V_goto eX2_call_135 ?_
            exact ih hlt false (by rw [zfold, ← hg]; simp [fCa, hgf])
          · have hgt := bI_n0.mp c61
            refine V_aload0 eX2_call_64 rfl ?_
            refine M_ga mb rfl eX2_call_65 fl_X2_8_2 ?_
            refine V_sipush (v := 370) (by decide) eX2_call_68 ?_
            refine V_iload4 eX2_call_71 ?_
            refine V_iadd eX2_call_73 ?_
            refine M_sl (n := (370 + i)) mb (zadd rfl rfl) (by omega) rfl eX2_call_74 ?_
            refine V_iconst (v := 4) (by decide) eX2_call_75 ?_
            refine V_if_icmpne eX2_call_76 (fun c76 => ?_) (fun c76 => ?_)
            · refine V_iconst (v := 1) (by decide) eX2_call_126 ?_
              refine V_goto eX2_call_127 ?_
              refine V_istore3 rfl eX2_call_131 rfl ?_
              refine V_iincN4 rfl eX2_call_132 rfl ?_
              refine V_goto eX2_call_135 ?_
              exact ih hlt true (by rw [zfold, ← hg]; simp [fCa, hgt, c76])
            · refine V_aload0 eX2_call_79 rfl ?_
              refine M_ga mb rfl eX2_call_80 fl_X2_8_2 ?_
              refine V_sipush (v := 430) (by decide) eX2_call_83 ?_
              refine V_iload4 eX2_call_86 ?_
              refine V_iadd eX2_call_88 ?_
              refine M_sl (n := (430 + i)) mb (zadd rfl rfl) (by omega) rfl eX2_call_89 ?_
              refine V_iload1 eX2_call_90 ?_
              refine V_if_icmpne eX2_call_91 (fun c91 => ?_) (fun c91 => ?_)
              · refine V_iconst (v := 1) (by decide) eX2_call_126 ?_
                refine V_goto eX2_call_127 ?_
                refine V_istore3 rfl eX2_call_131 rfl ?_
                refine V_iincN4 rfl eX2_call_132 rfl ?_
                refine V_goto eX2_call_135 ?_
                exact ih hlt true (by rw [zfold, ← hg]; simp [fCa, hgt, c91])
              · refine V_aload0 eX2_call_94 rfl ?_
                refine M_ga mb rfl eX2_call_95 fl_X2_8_2 ?_
                refine V_iconst (v := 0) (by decide) eX2_call_98 ?_
                refine M_sl (n := 0) mb rfl (by omega) rfl eX2_call_99 ?_
                refine V_aload0 eX2_call_100 rfl ?_
                refine M_ga mb rfl eX2_call_101 fl_X2_8_2 ?_
                refine V_sipush (v := 490) (by decide) eX2_call_104 ?_
                refine V_iload4 eX2_call_107 ?_
                refine V_iadd eX2_call_109 ?_
                refine M_sl (n := (490 + i)) mb (zadd rfl rfl) (by omega) rfl eX2_call_110 ?_
                refine V_isub eX2_call_111 ?_
                refine V_aload0 eX2_call_112 rfl ?_
                refine V_iconst (v := 4) (by decide) eX2_call_113 ?_
                refine V_aload0 eX2_call_114 rfl ?_
                refine M_ga mb rfl eX2_call_115 fl_X2_8_2 ?_
                refine V_iconst (v := 0) (by decide) eX2_call_118 ?_
                refine M_sl (n := 0) mb rfl (by omega) rfl eX2_call_119 ?_
                refine M_call mb eX2_call_120 lmX2_rule q2091 q2093 rfl qs63 (c_rule mb _ _ ho) rfl rfl rfl rfl ?_
                refine V_if_icmplt eX2_call_123 (fun c123 => ?_) (fun c123 => ?_)
                · refine V_iconst (v := 0) (by decide) eX2_call_130 ?_
                  refine V_istore3 rfl eX2_call_131 rfl ?_
                  refine V_iincN4 rfl eX2_call_132 rfl ?_
                  refine V_goto eX2_call_135 ?_
                  exact ih hlt false (by rw [zfold, ← hg]; simp [fCa, c76, c91, c123])
                · refine V_iconst (v := 1) (by decide) eX2_call_126 ?_
                  refine V_goto eX2_call_127 ?_
                  refine V_istore3 rfl eX2_call_131 rfl ?_
                  refine V_iincN4 rfl eX2_call_132 rfl ?_
                  refine V_goto eX2_call_135 ?_
                  exact ih hlt true (by have := zlt_nle.mp c123; rw [zfold, ← hg]; simp [fCa, hgt, c76, c91, this])
      refine V_aload0 eX2_call_32 rfl ?_
      refine V_iload1 eX2_call_33 ?_
      refine M_call mb eX2_call_34 lmX2_isFallen q2281 q2283 rfl qs87 (c_isFallen mb (p := p) (by omega)) rfl rfl rfl rfl ?_
      refine V_ifne eX2_call_37 (fun c37 => ?_) (fun c37 => ?_)
      · refine V_iconst (v := 0) (by decide) eX2_call_44 ?_
        refine V_istore3 rfl eX2_call_45 rfl ?_
        exact J46 false (by simpa [bI] using c37)
      · refine V_iconst (v := 1) (by decide) eX2_call_40 ?_
        refine V_goto eX2_call_41 ?_
        refine V_istore3 rfl eX2_call_45 rfl ?_
        exact J46 true (by simpa [bI] using c37)
    · refine V_bipush (v := -2) (by decide) eX2_call_29 ?_
      exact V_ireturn eX2_call_31 rfl (Rv.p (by clear mb ho; (try clear ih); simp [o_call, *]))
  · have hz := bI_0.mp c5
    refine V_iconst (v := -1) (by decide) eX2_call_8 ?_
    exact V_ireturn eX2_call_9 rfl (Rv.p (by clear mb ho; (try clear ih); simp [o_call, *]))

theorem c_lend {w : Wd} {h : Hp} {m : Nat} {ad : Nat → Nat} {A : Nat → Nat → Int32} {B : Nat → Nat → Int64} {F S : Nat → Int32} (mb : MB h m ad) (sc : Int32) (hol : Int32) (n : Int32) {np : Nat} (hnp : S 2 = nI np) (hnp60 : np ≤ 60) (isp : ∀ p, p < np → S (370 + p) = 1 → ∃ i, i < 12 ∧ S (11490 + i) = nI p) : Con w mX2_lend cX2_lend 5 0 0 [.ref m, .int sc, .int hol, .int n] (ms h A B F S) (Rv (.int (o_lend S sc hol n).1) (ms h A B F (o_lend S sc hol n).2)) := by
  refine Con.of (by decide +kernel) rfl rfl ?_
  show V w mX2_lend cX2_lend 5 0 0 _ 0 [some (.ref m), some (.int sc), some (.int hol), some (.int n)] [] _
  refine V_aload0 eX2_lend_0 rfl ?_
  refine V_iload1 eX2_lend_1 ?_
  refine M_call mb eX2_lend_2 lmX2_isScheme q2277 q2279 rfl qs86 (c_isScheme mb _ hnp hnp60) rfl rfl rfl rfl ?_
  refine V_ifeq eX2_lend_5 (fun c5 => ?_) (fun c5 => ?_)
  · have hz := bI_0.mp c5
    refine V_iconst (v := -1) (by decide) eX2_lend_15 ?_
    exact V_ireturn eX2_lend_16 rfl (Rv.p (by clear mb isp; grind [o_lend]))
  · have hz := bI_n0.mp c5
    obtain ⟨p, hp, rfl, hk⟩ := zof_get hz hnp hnp60
    have hcl : (nI p).toNatClampNeg = p := nI_clamp (by omega)
    have hsp := isp p hp hk
    have hlt := (sI_lt (Nat.le_refl 12) hsp).1
    refine V_iload2 eX2_lend_8 ?_
    refine C0_static eX2_lend_9 lmX2_isHolder q1977 q1978 (c_isHolder _ _) rfl rfl rfl rfl ?_
    refine V_ifne eX2_lend_12 (fun c12 => ?_) (fun c12 => ?_)
    · obtain ⟨c, hc, rfl⟩ := zinN (m := 7) c12 rfl (by decide)
      have hcc : (nI c).toNatClampNeg = c := nI_clamp (by omega)
      refine V_iload3 eX2_lend_17 ?_
      refine V_iconst (v := 1) (by decide) eX2_lend_18 ?_
      refine V_sipush (v := 9999) (by decide) eX2_lend_19 ?_
      refine C0_static eX2_lend_22 lmX2_in q1966 q1967 (c_in _ _ _ _) rfl rfl rfl rfl ?_
      refine V_ifne eX2_lend_25 (fun c25 => ?_) (fun c25 => ?_)
      · refine V_aload0 eX2_lend_31 rfl ?_
        refine V_iload1 eX2_lend_32 ?_
        refine M_call mb eX2_lend_33 lmX2_isFallen q2281 q2283 rfl qs87 (c_isFallen mb (p := p) (by omega)) rfl rfl rfl rfl ?_
        refine V_ifne eX2_lend_36 (fun c36 => ?_) (fun c36 => ?_)
        · have hf : S (790 + p) = 1 := by simpa [bI] using c36
          refine V_bipush (v := -3) (by decide) eX2_lend_53 ?_
          exact V_ireturn eX2_lend_55 rfl (Rv.p (by clear mb isp; grind [o_lend]))
        · have hf : ¬ S (790 + p) = 1 := by simpa [bI] using c36
          refine V_aload0 eX2_lend_39 rfl ?_
          refine M_ga mb rfl eX2_lend_40 fl_X2_8_2 ?_
          refine V_sipush (v := 192) (by decide) eX2_lend_43 ?_
          refine V_iload2 eX2_lend_46 ?_
          refine V_iadd eX2_lend_47 ?_
          refine M_sl (n := (192 + c)) mb (zadd rfl rfl) (by omega) rfl eX2_lend_48 ?_
          refine V_iload3 eX2_lend_49 ?_
          refine V_if_icmpge eX2_lend_50 (fun c50 => ?_) (fun c50 => ?_)
          · refine V_aload0 eX2_lend_56 rfl ?_
            refine M_ga mb rfl eX2_lend_57 fl_X2_8_2 ?_
            refine V_iconst (v := 2) (by decide) eX2_lend_60 ?_
            refine M_sl (n := 2) mb rfl (by omega) hnp eX2_lend_61 ?_
            refine V_bipush (v := 60) (by decide) eX2_lend_62 ?_
            refine V_if_icmpne eX2_lend_64 (fun c64 => ?_) (fun c64 => ?_)
            · have hne : np ≠ 60 := fun q => c64 (by rw [q]; rfl)
              refine V_aload0 eX2_lend_70 rfl ?_
              refine M_ga mb rfl eX2_lend_71 fl_X2_8_2 ?_
              refine V_sipush (v := 192) (by decide) eX2_lend_74 ?_
              refine V_iload2 eX2_lend_77 ?_
              refine V_iadd eX2_lend_78 ?_
              refine V_dup2 rfl rfl eX2_lend_79 ?_
              refine M_sl (n := (192 + c)) mb (zadd rfl rfl) (by omega) rfl eX2_lend_80 ?_
              refine V_iload3 eX2_lend_81 ?_
              refine V_isub eX2_lend_82 ?_
              refine M_ss (n := (192 + c)) mb (zadd rfl rfl) (by omega) eX2_lend_83 ?_
              refine V_aload0 eX2_lend_84 rfl ?_
              refine M_ga mb rfl eX2_lend_85 fl_X2_8_2 ?_
              refine V_sipush (v := 11502) (by decide) eX2_lend_88 ?_
              refine V_aload0 eX2_lend_91 rfl ?_
              refine V_iload1 eX2_lend_92 ?_
              refine M_call mb eX2_lend_93 lmX2_indexOf q2289 q2291 rfl qs89 (c_indexOf mb (sp_up (Or.inl (by omega)) hsp)) rfl rfl rfl rfl ?_
              rw [sI_up (Or.inl (by omega))]
              refine V_iadd eX2_lend_96 ?_
              refine V_dup2 rfl rfl eX2_lend_97 ?_
              refine M_sl (n := (11502 + (sI S (nI p)))) mb (zadd rfl rfl) (by omega) (rdn (by omega) rfl) eX2_lend_98 ?_
              refine V_iload3 eX2_lend_99 ?_
              refine V_iadd eX2_lend_100 ?_
              refine M_ss (n := (11502 + (sI S (nI p)))) mb (zadd rfl rfl) (by omega) eX2_lend_101 ?_
              have hnp2 : va_up (va_up S (192 + c) (S (192 + c) - n)) (11502 + sI S (nI p)) (S (11502 + sI S (nI p)) + n) 2 = nI np := rdn (by omega) (rdn (by omega) hnp)
              refine V_aload0 eX2_lend_102 rfl ?_
              refine V_iconst (v := 5) (by decide) eX2_lend_103 ?_
              refine V_iload1 eX2_lend_104 ?_
              refine V_iload2 eX2_lend_105 ?_
              refine V_iconst (v := -1) (by decide) eX2_lend_106 ?_
              refine V_iconst (v := -1) (by decide) eX2_lend_107 ?_
              refine V_iload3 eX2_lend_108 ?_
              refine M_call mb eX2_lend_109 lmX2_paper q2111 q2113 rfl qs66 (c_paper mb _ _ _ _ _ _ hnp2 (by omega)) rfl rfl rfl rfl ?_
              exact V_ireturn eX2_lend_112 rfl (Rv.p (by clear mb isp; grind [o_lend]))
            · refine V_bipush (v := -4) (by decide) eX2_lend_67 ?_
              exact V_ireturn eX2_lend_69 rfl (Rv.p (by clear mb isp; grind [o_lend]))
          · refine V_bipush (v := -3) (by decide) eX2_lend_53 ?_
            exact V_ireturn eX2_lend_55 rfl (Rv.p (by clear mb isp; grind [o_lend]))
      · refine V_bipush (v := -2) (by decide) eX2_lend_28 ?_
        exact V_ireturn eX2_lend_30 rfl (Rv.p (by clear mb isp; grind [o_lend]))
    · refine V_iconst (v := -1) (by decide) eX2_lend_15 ?_
      exact V_ireturn eX2_lend_16 rfl (Rv.p (by clear mb isp; grind [o_lend]))

theorem c_known {w : Wd} {h : Hp} {m : Nat} {ad : Nat → Nat} {A : Nat → Nat → Int32} {B : Nat → Nat → Int64} {F S : Nat → Int32} (mb : MB h m ad) (p : Int32) (d : Int32) {np : Nat} (hnp : S 2 = nI np) (hnp60 : np ≤ 60) (isp : ∀ q, q < np → S (370 + q) = 1 → ∃ i, i < 12 ∧ S (11490 + i) = nI q) {td : Nat} (htd : S 0 = nI td) (htd9 : td ≤ 999) : Con w mX2_known cX2_known 5 0 0 [.ref m, .int p, .int d] (ms h A B F S) (Rv (.int (o_known S p d).1) (ms h A B F (o_known S p d).2)) := by
  refine Con.of (by decide +kernel) rfl rfl ?_
  show V w mX2_known cX2_known 5 0 0 _ 0 [some (.ref m), some (.int p), some (.int d), none] [] _
  refine V_aload0 eX2_known_0 rfl ?_
  refine V_iload1 eX2_known_1 ?_
  refine M_call mb eX2_known_2 lmX2_isPaper q2123 q2125 rfl qs68 (c_isPaper mb _) rfl rfl rfl rfl ?_
  refine V_ifeq eX2_known_5 (fun c5 => ?_) (fun c5 => ?_)
  · refine V_iconst (v := -1) (by decide) eX2_known_24 ?_
    exact V_ireturn eX2_known_25 rfl (Rv.p (by clear mb isp; grind [o_known]))
  · obtain ⟨q, hq, rfl⟩ := zinC c5 hnp (by omega)
    have hqc : (nI q).toNatClampNeg = q := nI_clamp (by omega)
    refine V_iload2 eX2_known_8 ?_
    refine V_iconst (v := 0) (by decide) eX2_known_9 ?_
    refine V_aload0 eX2_known_10 rfl ?_
    refine M_ga mb rfl eX2_known_11 fl_X2_8_2 ?_
    refine V_iconst (v := 0) (by decide) eX2_known_14 ?_
    refine M_sl (n := 0) mb rfl (by omega) rfl eX2_known_15 ?_
    refine V_iconst (v := 1) (by decide) eX2_known_16 ?_
    refine V_isub eX2_known_17 ?_
    refine C0_static eX2_known_18 lmX2_in q1966 q1967 (c_in _ _ _ _) rfl rfl rfl rfl ?_
    refine V_ifne eX2_known_21 (fun c21 => ?_) (fun c21 => ?_)
    · obtain ⟨k, hk, rfl⟩ := zinC c21 htd (by omega)
      have hkc : (nI k).toNatClampNeg = k := nI_clamp (by omega)
      refine V_aload0 eX2_known_26 rfl ?_
      refine M_ga mb rfl eX2_known_27 fl_X2_8_2 ?_
      refine V_sipush (v := 370) (by decide) eX2_known_30 ?_
      refine V_iload1 eX2_known_33 ?_
      refine V_iadd eX2_known_34 ?_
      refine M_sl (n := (370 + q)) mb (zadd rfl rfl) (by omega) rfl eX2_known_35 ?_
      refine V_istore3 rfl eX2_known_36 rfl ?_
      refine V_iload3 eX2_known_37 ?_
      refine V_iconst (v := 1) (by decide) eX2_known_38 ?_
      refine V_if_icmpne eX2_known_39 (fun c39 => ?_) (fun c39 => ?_)
      · refine V_iload3 eX2_known_65 ?_
        refine V_iconst (v := 3) (by decide) eX2_known_66 ?_
        refine V_if_icmpne eX2_known_67 (fun c67 => ?_) (fun c67 => ?_)
        · refine V_iconst (v := -1) (by decide) eX2_known_89 ?_
          exact V_ireturn eX2_known_90 rfl (Rv.p (by clear mb isp; grind [o_known]))
        · refine V_aload0 eX2_known_70 rfl ?_
          refine M_ga mb rfl eX2_known_71 fl_X2_8_2 ?_
          refine V_sipush (v := 23840) (by decide) eX2_known_74 ?_
          refine V_sipush (v := 1000) (by decide) eX2_known_77 ?_
          refine V_iload1 eX2_known_80 ?_
          refine V_imul eX2_known_81 ?_
          refine V_iadd eX2_known_82 ?_
          refine V_iload2 eX2_known_83 ?_
          refine V_iadd eX2_known_84 ?_
          refine M_sl (n := ((23840 + (1000 * q)) + k)) mb (zadd (zadd rfl (zmul rfl rfl)) rfl) (by omega) rfl eX2_known_85 ?_
          refine V_goto eX2_known_86 ?_
          exact V_ireturn eX2_known_90 rfl (Rv.p (by clear mb isp; grind [o_known]))
      · have hsp := isp q hq c39
        have hlt := (sI_lt (Nat.le_refl 12) hsp).1
        refine V_aload0 eX2_known_42 rfl ?_
        refine M_ga mb rfl eX2_known_43 fl_X2_8_2 ?_
        refine V_sipush (v := 11840) (by decide) eX2_known_46 ?_
        refine V_sipush (v := 1000) (by decide) eX2_known_49 ?_
        refine V_aload0 eX2_known_52 rfl ?_
        refine V_iload1 eX2_known_53 ?_
        refine M_call mb eX2_known_54 lmX2_indexOf q2289 q2291 rfl qs89 (c_indexOf mb hsp) rfl rfl rfl rfl ?_
        refine V_imul eX2_known_57 ?_
        refine V_iadd eX2_known_58 ?_
        refine V_iload2 eX2_known_59 ?_
        refine V_iadd eX2_known_60 ?_
        refine M_sl (n := ((11840 + (1000 * (sI S (nI q)))) + k)) mb (zadd (zadd rfl (zmul rfl rfl)) rfl) (by omega) rfl eX2_known_61 ?_
        refine V_goto eX2_known_62 ?_
        exact V_ireturn eX2_known_90 rfl (Rv.p (by clear mb isp; grind [o_known]))
    · refine V_iconst (v := -1) (by decide) eX2_known_24 ?_
      exact V_ireturn eX2_known_25 rfl (Rv.p (by clear mb isp; grind [o_known]))

