theorem zsub1 {x : Int32} {n : Nat} (h : x = nI (n + 1)) : x - 1 = nI n := by rw [h, nI_pred]
theorem zsubm {x y : Int32} {n m : Nat} (hx : x = nI (n + m)) (hy : y = nI m) : x - y = nI n := by subst hx; subst hy; rw [pk_sub (by omega)]; congr 1; omega
def zfold {α : Type} (f : Nat → α → α) : Nat → α → α
  | 0, a => a
  | n + 1, a => f n (zfold f n a)
def o_paper (S : Nat → Int32) (kind of first second gauge n : Int32) : Int32 × (Nat → Int32) :=
  (S 2, va_up (va_up (va_up (va_up (va_up (va_up (va_up (va_up (va_up S (370 + sn S 2) kind) (430 + sn S 2) of) (490 + sn S 2) (S 0)) (550 + sn S 2) first) (610 + sn S 2) second) (670 + sn S 2) gauge) (730 + sn S 2) n) (790 + sn S 2) 0) 2 (S 2 + 1))
def o_claim (S : Nat → Int32) (cell n : Int32) : Int32 × (Nat → Int32) :=
  if zin cell 0 79 = 0 then (-1, S) else if zin n 1 9999 = 0 then (-2, S) else if S 2 = 60 then (-4, S) else o_paper S 6 (-1) cell (-1) (-1) n
def o_ask (S : Nat → Int32) (sch hol n price ask : Int32) : Int32 × (Nat → Int32) :=
  if zof S sch 1 = false ∨ zin hol 0 7 = 0 then (-1, S) else if zin n 1 99 = 0 ∨ zin price 1 999 = 0 then (-2, S) else if S 8 = 40 then (-4, S) else
  (S 8 + 1, va_up (va_up (va_up (va_up (va_up (va_up S (11640 + sn S 8) sch) (11680 + sn S 8) hol) (11720 + sn S 8) n) (11760 + sn S 8) price) (11800 + sn S 8) (if ask = 0 then 0 else 1)) 8 (S 8 + 1))
def o_about (S : Nat → Int32) (paper what : Int32) : Int32 × (Nat → Int32) :=
  if zin paper 0 (S 2 - 1) = 0 ∨ zin what 0 7 = 0 then (-1, S) else
  (S ((if what = 0 then 370 else if what = 1 then 430 else if what = 2 then 490 else if what = 3 then 550 else if what = 4 then 610 else if what = 5 then 670 else if what = 6 then 730 else 790) + paper.toNatClampNeg), S)
def zund (kind k : Int32) : Bool := decide (k = 0 ∨ kind = k ∨ (k = 1 ∧ kind < 4) ∨ (k = 4 ∧ kind = 5))
def zw0 (S : Nat → Int32) (p : Nat) : Int32 :=
  if S (370 + p) = 1 then 10 + S (730 + p) else if S (370 + p) = 2 then 10 + S (730 + sn S (430 + p)) + S (850 + p) else
  if S (370 + p) = 4 then 4 + S (730 + p) else if S (370 + p) = 5 then 2 * (4 + S (730 + p)) - 1 else 1 + S (730 + p)
def zworth (S : Nat → Int32) (p : Nat) : Int32 := if S (370 + p) = 3 then 2 * zw0 S (sn S (430 + p)) else zw0 S p
def o_cast (S : Nat → Int32) (paper k : Int32) : Int32 × (Nat → Int32) :=
  if zin paper 0 (S 2 - 1) = 0 ∨ zin k 0 6 = 0 then (-1, S) else if zund (S (370 + paper.toNatClampNeg)) k = true then (zworth S paper.toNatClampNeg, S) else (-13, S)
def fGr (S : Nat → Int32) : Nat → Int32 → Int32 := fun p n => n + bI (decide (S (370 + p) = 3) && decide (S (790 + p) = 1))
def fDn (S : Nat → Int32) : Nat → Int32 → Int32 := fun p n => n + bI (decide (S (370 + p) = 3) && decide (S (790 + p) = 1) && decide (S (970 + p) = 0))
def o_count (S : Nat → Int32) (what : Int32) : Int32 × (Nat → Int32) :=
  (if what = 0 then S 1 else if what = 1 then S 2 else if what = 2 then S 3 else if what = 3 then S 0 else if what = 4 then S 4 else if what = 5 then S 5 else
   if what = 6 then zfold (fGr S) (sn S 2) 0 else if what = 7 then zfold (fDn S) (sn S 2) 0 else if what = 8 then S 7 else if what = 9 then S 8 else if what = 10 then S 6 else -1, S)
/-- a block set to nought -/
def zblk (S : Nat → Int32) (b n : Nat) : Nat → Int32 := fun j => if b ≤ j ∧ j < b + n then 0 else S j
theorem zblk_0 (S : Nat → Int32) (b : Nat) : zblk S b 0 = S := by funext j; unfold zblk; rw [if_neg (by omega)]
theorem zblk_s (S : Nat → Int32) (b n : Nat) : va_up (zblk S b n) (b + n) 0 = zblk S b (n + 1) := by
  funext j
  unfold va_up zblk
  by_cases e : j = b + n
  · rw [if_pos e, if_pos (by omega)]
  · rw [if_neg e]
    by_cases q : b ≤ j ∧ j < b + n
    · rw [if_pos q, if_pos (by omega)]
    · rw [if_neg q, if_neg (by omega)]
def o_sheet (S : Nat → Int32) (sh sort n : Int32) : Int32 × (Nat → Int32) :=
  if zin sh 0 3 = 0 then (-1, S) else if zin sort (-1) 2 = 0 ∨ (¬ sort = -1 ∧ ¬ n ≤ 40) then (-2, S) else if ¬ sort = -1 ∧ ¬ 0 ≤ n then (-14, S) else
  (1, zblk (va_up (va_up S (200 + sh.toNatClampNeg) sort) (204 + sh.toNatClampNeg) (if sort = -1 then 0 else n)) (208 + 40 * sh.toNatClampNeg) 40)
def o_item (S : Nat → Int32) (sh i v : Int32) : Int32 × (Nat → Int32) :=
  if zin sh 0 3 = 0 then (-1, S) else if S (200 + sh.toNatClampNeg) = -1 then (-11, S) else if zin i 0 (S (204 + sh.toNatClampNeg) - 1) = 0 then (-12, S) else
  (1, va_up S (208 + 40 * sh.toNatClampNeg + i.toNatClampNeg) (if S (200 + sh.toNatClampNeg) = 0 then v.toInt8.toInt32 else if S (200 + sh.toNatClampNeg) = 1 then v.toInt16.toInt32 else v))
def zsz (v : Int32) : Int32 := if v < 0 then -v else v
def zstep (S : Nat → Int32) (a b : Nat) : Int32 := 10 + 3 * zsz (S (20 + a) - S (20 + b)) + (if S (100 + b) = 1 then 20 else if S (100 + b) = 2 then 5 else 0)
/-- the cells of a plan's way -/
def wc (S : Nat → Int32) (p k : Nat) : Nat := sn S (4700 + 41 * p + k)
def Iw (S : Nat → Int32) (p wl : Nat) : Prop := S (850 + p) = nI wl ∧ wl ≤ 40 ∧ ∀ k, k < wl → S (4700 + 41 * p + k) = nI (wc S p k) ∧ wc S p k < 80
def fYd (S : Nat → Int32) (p : Nat) : Nat → Int32 → Int32 := fun i n => n + zstep S (wc S p i) (wc S p (i + 1))
def zyards (S : Nat → Int32) (p : Nat) : Int32 := zfold (fYd S p) (sn S (850 + p) - 1) 0
def o_way (S : Nat → Int32) (plan what : Int32) : Int32 × (Nat → Int32) :=
  if zof S plan 2 = false then (-1, S) else if what = 0 then (S (850 + plan.toNatClampNeg), S) else if what = 1 then (S (910 + plan.toNatClampNeg), S) else
  if what = 2 then (zyards S plan.toNatClampNeg, S) else if zin (what - 10) 0 (S (850 + plan.toNatClampNeg) - 1) = 0 then (-1, S) else (S (4700 + 41 * plan.toNatClampNeg + (what - 10).toNatClampNeg), S)
def o_level (S : Nat → Int32) (plan i : Int32) : Int32 × (Nat → Int32) :=
  if zof S plan 2 = false ∨ zin i 0 (S (850 + plan.toNatClampNeg) - 1) = 0 then (-1, S) else (S (7160 + 41 * plan.toNatClampNeg + i.toNatClampNeg), S)
/-- the first place of a cell in a way -/
def zpl (S : Nat → Int32) (p : Nat) (c : Int32) : Nat → Nat → Int32
  | 0, _ => -1
  | n + 1, i => if S (4700 + 41 * p + i) = c then nI i else zpl S p c n (i + 1)
def zplace (S : Nat → Int32) (p : Nat) (c : Int32) : Int32 := zpl S p c (sn S (850 + p)) 0
theorem nIneg {n : Nat} (h : n < 2 ^ 31) : ¬ nI n = -1 := by
  intro q
  have := congrArg Int32.toInt q
  rw [nI_toInt h] at this
  have h2 : (-1 : Int32).toInt = -1 := by decide
  omega
theorem c_paper {w : Wd} {h : Hp} {m : Nat} {ad : Nat → Nat} {A : Nat → Nat → Int32} {B : Nat → Nat → Int64} {F S : Nat → Int32} (mb : MB h m ad) (kind : Int32) (of : Int32) (first : Int32) (second : Int32) (gauge : Int32) (n : Int32) {np : Nat} (hnp : S 2 = nI np) (hnp60 : np < 60) : Con w mX2_paper cX2_paper 1 0 0 [.ref m, .int kind, .int of, .int first, .int second, .int gauge, .int n] (ms h A B F S) (Rv (.int (o_paper S kind of first second gauge n).1) (ms h A B F (o_paper S kind of first second gauge n).2)) := by
  refine Con.of (by decide +kernel) rfl rfl ?_
  show V w mX2_paper cX2_paper 1 0 0 _ 0 [some (.ref m), some (.int kind), some (.int of), some (.int first), some (.int second), some (.int gauge), some (.int n), none] [] _
  have hs := sn_of hnp (by omega)
  refine V_aload0 eX2_paper_0 rfl ?_
  refine M_ga mb rfl eX2_paper_1 fl_X2_8_2 ?_
  refine V_iconst (v := 2) (by decide) eX2_paper_4 ?_
  refine M_sl (n := 2) mb rfl (by omega) hnp eX2_paper_5 ?_
  refine V_istore7 rfl eX2_paper_6 rfl ?_
  refine V_aload0 eX2_paper_8 rfl ?_
  refine M_ga mb rfl eX2_paper_9 fl_X2_8_2 ?_
  refine V_sipush (v := 370) (by decide) eX2_paper_12 ?_
  refine V_iload7 eX2_paper_15 ?_
  refine V_iadd eX2_paper_17 ?_
  refine V_iload1 eX2_paper_18 ?_
  refine M_ss (n := (370 + np)) mb (zadd rfl rfl) (by omega) eX2_paper_19 ?_
  refine V_aload0 eX2_paper_20 rfl ?_
  refine M_ga mb rfl eX2_paper_21 fl_X2_8_2 ?_
  refine V_sipush (v := 430) (by decide) eX2_paper_24 ?_
  refine V_iload7 eX2_paper_27 ?_
  refine V_iadd eX2_paper_29 ?_
  refine V_iload2 eX2_paper_30 ?_
  refine M_ss (n := (430 + np)) mb (zadd rfl rfl) (by omega) eX2_paper_31 ?_
  refine V_aload0 eX2_paper_32 rfl ?_
  refine M_ga mb rfl eX2_paper_33 fl_X2_8_2 ?_
  refine V_sipush (v := 490) (by decide) eX2_paper_36 ?_
  refine V_iload7 eX2_paper_39 ?_
  refine V_iadd eX2_paper_41 ?_
  refine V_aload0 eX2_paper_42 rfl ?_
  refine M_ga mb rfl eX2_paper_43 fl_X2_8_2 ?_
  refine V_iconst (v := 0) (by decide) eX2_paper_46 ?_
  refine M_sl (n := 0) mb rfl (by omega) (rdn (by omega) (rdn (by omega) (rfl : S 0 = S 0))) eX2_paper_47 ?_
  refine M_ss (n := (490 + np)) mb (zadd rfl rfl) (by omega) eX2_paper_48 ?_
  refine V_aload0 eX2_paper_49 rfl ?_
  refine M_ga mb rfl eX2_paper_50 fl_X2_8_2 ?_
  refine V_sipush (v := 550) (by decide) eX2_paper_53 ?_
  refine V_iload7 eX2_paper_56 ?_
  refine V_iadd eX2_paper_58 ?_
  refine V_iload3 eX2_paper_59 ?_
  refine M_ss (n := (550 + np)) mb (zadd rfl rfl) (by omega) eX2_paper_60 ?_
  refine V_aload0 eX2_paper_61 rfl ?_
  refine M_ga mb rfl eX2_paper_62 fl_X2_8_2 ?_
  refine V_sipush (v := 610) (by decide) eX2_paper_65 ?_
  refine V_iload7 eX2_paper_68 ?_
  refine V_iadd eX2_paper_70 ?_
  refine V_iload4 eX2_paper_71 ?_
  refine M_ss (n := (610 + np)) mb (zadd rfl rfl) (by omega) eX2_paper_73 ?_
  refine V_aload0 eX2_paper_74 rfl ?_
  refine M_ga mb rfl eX2_paper_75 fl_X2_8_2 ?_
  refine V_sipush (v := 670) (by decide) eX2_paper_78 ?_
  refine V_iload7 eX2_paper_81 ?_
  refine V_iadd eX2_paper_83 ?_
  refine V_iload5 eX2_paper_84 ?_
  refine M_ss (n := (670 + np)) mb (zadd rfl rfl) (by omega) eX2_paper_86 ?_
  refine V_aload0 eX2_paper_87 rfl ?_
  refine M_ga mb rfl eX2_paper_88 fl_X2_8_2 ?_
  refine V_sipush (v := 730) (by decide) eX2_paper_91 ?_
  refine V_iload7 eX2_paper_94 ?_
  refine V_iadd eX2_paper_96 ?_
  refine V_iload6 eX2_paper_97 ?_
  refine M_ss (n := (730 + np)) mb (zadd rfl rfl) (by omega) eX2_paper_99 ?_
  refine V_aload0 eX2_paper_100 rfl ?_
  refine M_ga mb rfl eX2_paper_101 fl_X2_8_2 ?_
  refine V_sipush (v := 790) (by decide) eX2_paper_104 ?_
  refine V_iload7 eX2_paper_107 ?_
  refine V_iadd eX2_paper_109 ?_
  refine V_iconst (v := 0) (by decide) eX2_paper_110 ?_
  refine M_ss (n := (790 + np)) mb (zadd rfl rfl) (by omega) eX2_paper_111 ?_
  refine V_aload0 eX2_paper_112 rfl ?_
  refine M_ga mb rfl eX2_paper_113 fl_X2_8_2 ?_
  refine V_iconst (v := 2) (by decide) eX2_paper_116 ?_
  refine V_dup2 rfl rfl eX2_paper_117 ?_
  refine M_sl (n := 2) mb rfl (by omega) (rdn (by omega) (rdn (by omega) (rdn (by omega) (rdn (by omega) (rdn (by omega) (rdn (by omega) (rdn (by omega) (rdn (by omega) hnp)))))))) eX2_paper_118 ?_
  refine V_iconst (v := 1) (by decide) eX2_paper_119 ?_
  refine V_iadd eX2_paper_120 ?_
  refine M_ss (n := 2) mb rfl (by omega) eX2_paper_121 ?_
  refine V_iload7 eX2_paper_122 ?_
  exact V_ireturn eX2_paper_124 rfl (Rv.p (by clear mb; (try clear ih); first | grind [o_paper] | grind [o_paper, nI_pred, nI_1]))

theorem c_claim {w : Wd} {h : Hp} {m : Nat} {ad : Nat → Nat} {A : Nat → Nat → Int32} {B : Nat → Nat → Int64} {F S : Nat → Int32} (mb : MB h m ad) (cell : Int32) (n : Int32) {np : Nat} (hnp : S 2 = nI np) (hnp60 : np ≤ 60) : Con w mX2_claim cX2_claim 4 0 0 [.ref m, .int cell, .int n] (ms h A B F S) (Rv (.int (o_claim S cell n).1) (ms h A B F (o_claim S cell n).2)) := by
  refine Con.of (by decide +kernel) rfl rfl ?_
  show V w mX2_claim cX2_claim 4 0 0 _ 0 [some (.ref m), some (.int cell), some (.int n)] [] _
  refine V_iload1 eX2_claim_0 ?_
  refine C0_static eX2_claim_1 lmX2_isCell q1963 q1964 (c_isCell _ _) rfl rfl rfl rfl ?_
  refine V_ifne eX2_claim_4 (fun c4 => ?_) (fun c4 => ?_)
  · refine V_iload2 eX2_claim_9 ?_
    refine V_iconst (v := 1) (by decide) eX2_claim_10 ?_
    refine V_sipush (v := 9999) (by decide) eX2_claim_11 ?_
    refine C0_static eX2_claim_14 lmX2_in q1966 q1967 (c_in _ _ _ _) rfl rfl rfl rfl ?_
    refine V_ifne eX2_claim_17 (fun c17 => ?_) (fun c17 => ?_)
    · refine V_aload0 eX2_claim_23 rfl ?_
      refine M_ga mb rfl eX2_claim_24 fl_X2_8_2 ?_
      refine V_iconst (v := 2) (by decide) eX2_claim_27 ?_
      refine M_sl (n := 2) mb rfl (by omega) hnp eX2_claim_28 ?_
      refine V_bipush (v := 60) (by decide) eX2_claim_29 ?_
      refine V_if_icmpne eX2_claim_31 (fun c31 => ?_) (fun c31 => ?_)
      · have hne : np ≠ 60 := fun q => c31 (by rw [q]; rfl)
        refine V_aload0 eX2_claim_39 rfl ?_
        refine V_bipush (v := 6) (by decide) eX2_claim_40 ?_
        refine V_iconst (v := -1) (by decide) eX2_claim_42 ?_
        refine V_iload1 eX2_claim_43 ?_
        refine V_iconst (v := -1) (by decide) eX2_claim_44 ?_
        refine V_iconst (v := -1) (by decide) eX2_claim_45 ?_
        refine V_iload2 eX2_claim_46 ?_
        refine M_call mb eX2_claim_47 lmX2_paper q2111 q2113 rfl qs66 (c_paper mb _ _ _ _ _ _ hnp (by omega)) rfl rfl rfl rfl ?_
        exact V_ireturn eX2_claim_50 rfl (Rv.p (by clear mb; (try clear ih); first | grind [o_claim] | grind [o_claim, nI_pred, nI_1]))
      · refine V_bipush (v := -4) (by decide) eX2_claim_34 ?_
        refine V_goto eX2_claim_36 ?_
        exact V_ireturn eX2_claim_50 rfl (Rv.p (by clear mb; (try clear ih); first | grind [o_claim] | grind [o_claim, nI_pred, nI_1]))
    · refine V_bipush (v := -2) (by decide) eX2_claim_20 ?_
      exact V_ireturn eX2_claim_22 rfl (Rv.p (by clear mb; (try clear ih); first | grind [o_claim] | grind [o_claim, nI_pred, nI_1]))
  · refine V_iconst (v := -1) (by decide) eX2_claim_7 ?_
    exact V_ireturn eX2_claim_8 rfl (Rv.p (by clear mb; (try clear ih); first | grind [o_claim] | grind [o_claim, nI_pred, nI_1]))

theorem c_ask {w : Wd} {h : Hp} {m : Nat} {ad : Nat → Nat} {A : Nat → Nat → Int32} {B : Nat → Nat → Int64} {F S : Nat → Int32} (mb : MB h m ad) (sch : Int32) (hol : Int32) (n : Int32) (price : Int32) (ask : Int32) {np : Nat} (hnp : S 2 = nI np) (hnp60 : np ≤ 60) {nf : Nat} (hnf : S 8 = nI nf) (hnf40 : nf ≤ 40) : Con w mX2_ask cX2_ask 5 0 0 [.ref m, .int sch, .int hol, .int n, .int price, .int ask] (ms h A B F S) (Rv (.int (o_ask S sch hol n price ask).1) (ms h A B F (o_ask S sch hol n price ask).2)) := by
  refine Con.of (by decide +kernel) rfl rfl ?_
  show V w mX2_ask cX2_ask 5 0 0 _ 0 [some (.ref m), some (.int sch), some (.int hol), some (.int n), some (.int price), some (.int ask), none] [] _
  refine V_aload0 eX2_ask_0 rfl ?_
  refine V_iload1 eX2_ask_1 ?_
  refine M_call mb eX2_ask_2 lmX2_isScheme q2277 q2279 rfl qs86 (c_isScheme mb _ hnp hnp60) rfl rfl rfl rfl ?_
  refine V_ifeq eX2_ask_5 (fun c5 => ?_) (fun c5 => ?_)
  · have hz := bI_0.mp c5
    refine V_iconst (v := -1) (by decide) eX2_ask_15 ?_
    exact V_ireturn eX2_ask_16 rfl (Rv.p (by clear mb; (try clear ih); first | grind [o_ask] | grind [o_ask, nI_pred, nI_1]))
  · have hz := bI_n0.mp c5
    refine V_iload2 eX2_ask_8 ?_
    refine C0_static eX2_ask_9 lmX2_isHolder q1977 q1978 (c_isHolder _ _) rfl rfl rfl rfl ?_
    refine V_ifne eX2_ask_12 (fun c12 => ?_) (fun c12 => ?_)
    · refine V_iload3 eX2_ask_17 ?_
      refine V_iconst (v := 1) (by decide) eX2_ask_18 ?_
      refine V_bipush (v := 99) (by decide) eX2_ask_19 ?_
      refine C0_static eX2_ask_21 lmX2_in q1966 q1967 (c_in _ _ _ _) rfl rfl rfl rfl ?_
      refine V_ifeq eX2_ask_24 (fun c24 => ?_) (fun c24 => ?_)
      · refine V_bipush (v := -2) (by decide) eX2_ask_39 ?_
        exact V_ireturn eX2_ask_41 rfl (Rv.p (by clear mb; (try clear ih); first | grind [o_ask] | grind [o_ask, nI_pred, nI_1]))
      · refine V_iload4 eX2_ask_27 ?_
        refine V_iconst (v := 1) (by decide) eX2_ask_29 ?_
        refine V_sipush (v := 999) (by decide) eX2_ask_30 ?_
        refine C0_static eX2_ask_33 lmX2_in q1966 q1967 (c_in _ _ _ _) rfl rfl rfl rfl ?_
        refine V_ifne eX2_ask_36 (fun c36 => ?_) (fun c36 => ?_)
        · refine V_aload0 eX2_ask_42 rfl ?_
          refine M_ga mb rfl eX2_ask_43 fl_X2_8_2 ?_
          refine V_bipush (v := 8) (by decide) eX2_ask_46 ?_
          refine M_sl (n := 8) mb rfl (by omega) hnf eX2_ask_48 ?_
          refine V_bipush (v := 40) (by decide) eX2_ask_49 ?_
          refine V_if_icmpne eX2_ask_51 (fun c51 => ?_) (fun c51 => ?_)
          · have hs := sn_of hnf (by omega)
            have hne : nf ≠ 40 := fun q => c51 (by rw [q]; rfl)
            refine V_aload0 eX2_ask_57 rfl ?_
            refine M_ga mb rfl eX2_ask_58 fl_X2_8_2 ?_
            refine V_bipush (v := 8) (by decide) eX2_ask_61 ?_
            refine M_sl (n := 8) mb rfl (by omega) hnf eX2_ask_63 ?_
            refine V_istore6 rfl eX2_ask_64 rfl ?_
            refine V_aload0 eX2_ask_66 rfl ?_
            refine M_ga mb rfl eX2_ask_67 fl_X2_8_2 ?_
            refine V_sipush (v := 11640) (by decide) eX2_ask_70 ?_
            refine V_iload6 eX2_ask_73 ?_
            refine V_iadd eX2_ask_75 ?_
            refine V_iload1 eX2_ask_76 ?_
            refine M_ss (n := (11640 + nf)) mb (zadd rfl rfl) (by omega) eX2_ask_77 ?_
            refine V_aload0 eX2_ask_78 rfl ?_
            refine M_ga mb rfl eX2_ask_79 fl_X2_8_2 ?_
            refine V_sipush (v := 11680) (by decide) eX2_ask_82 ?_
            refine V_iload6 eX2_ask_85 ?_
            refine V_iadd eX2_ask_87 ?_
            refine V_iload2 eX2_ask_88 ?_
            refine M_ss (n := (11680 + nf)) mb (zadd rfl rfl) (by omega) eX2_ask_89 ?_
            refine V_aload0 eX2_ask_90 rfl ?_
            refine M_ga mb rfl eX2_ask_91 fl_X2_8_2 ?_
            refine V_sipush (v := 11720) (by decide) eX2_ask_94 ?_
            refine V_iload6 eX2_ask_97 ?_
            refine V_iadd eX2_ask_99 ?_
            refine V_iload3 eX2_ask_100 ?_
            refine M_ss (n := (11720 + nf)) mb (zadd rfl rfl) (by omega) eX2_ask_101 ?_
            refine V_aload0 eX2_ask_102 rfl ?_
            refine M_ga mb rfl eX2_ask_103 fl_X2_8_2 ?_
            refine V_sipush (v := 11760) (by decide) eX2_ask_106 ?_
            refine V_iload6 eX2_ask_109 ?_
            refine V_iadd eX2_ask_111 ?_
            refine V_iload4 eX2_ask_112 ?_
            refine M_ss (n := (11760 + nf)) mb (zadd rfl rfl) (by omega) eX2_ask_114 ?_
            refine V_aload0 eX2_ask_115 rfl ?_
            refine M_ga mb rfl eX2_ask_116 fl_X2_8_2 ?_
            refine V_sipush (v := 11800) (by decide) eX2_ask_119 ?_
            refine V_iload6 eX2_ask_122 ?_
            refine V_iadd eX2_ask_124 ?_
            refine V_iload5 eX2_ask_125 ?_
            refine V_ifeq eX2_ask_127 (fun c127 => ?_) (fun c127 => ?_)
            · refine V_iconst (v := 0) (by decide) eX2_ask_134 ?_
              refine M_ss (n := (11800 + nf)) mb (zadd rfl rfl) (by omega) eX2_ask_135 ?_
              refine V_aload0 eX2_ask_136 rfl ?_
              refine M_ga mb rfl eX2_ask_137 fl_X2_8_2 ?_
              refine V_bipush (v := 8) (by decide) eX2_ask_140 ?_
              refine V_dup2 rfl rfl eX2_ask_142 ?_
              refine M_sl (n := 8) mb rfl (by omega) (rdn (by omega) (rdn (by omega) (rdn (by omega) (rdn (by omega) (rdn (by omega) hnf))))) eX2_ask_143 ?_
              refine V_iconst (v := 1) (by decide) eX2_ask_144 ?_
              refine V_iadd eX2_ask_145 ?_
              refine M_ss (n := 8) mb rfl (by omega) eX2_ask_146 ?_
              refine V_aload0 eX2_ask_147 rfl ?_
              refine M_ga mb rfl eX2_ask_148 fl_X2_8_2 ?_
              refine V_bipush (v := 8) (by decide) eX2_ask_151 ?_
              refine M_sl (n := 8) mb rfl (by omega) ((va_up_self _ _ _).trans (zadd rfl rfl)) eX2_ask_153 ?_
              exact V_ireturn eX2_ask_154 rfl (Rv.p (by clear mb; (try clear ih); first | grind [o_ask] | grind [o_ask, nI_pred, nI_1]))
            · refine V_iconst (v := 1) (by decide) eX2_ask_130 ?_
              refine V_goto eX2_ask_131 ?_
              refine M_ss (n := (11800 + nf)) mb (zadd rfl rfl) (by omega) eX2_ask_135 ?_
              refine V_aload0 eX2_ask_136 rfl ?_
              refine M_ga mb rfl eX2_ask_137 fl_X2_8_2 ?_
              refine V_bipush (v := 8) (by decide) eX2_ask_140 ?_
              refine V_dup2 rfl rfl eX2_ask_142 ?_
              refine M_sl (n := 8) mb rfl (by omega) (rdn (by omega) (rdn (by omega) (rdn (by omega) (rdn (by omega) (rdn (by omega) hnf))))) eX2_ask_143 ?_
              refine V_iconst (v := 1) (by decide) eX2_ask_144 ?_
              refine V_iadd eX2_ask_145 ?_
              refine M_ss (n := 8) mb rfl (by omega) eX2_ask_146 ?_
              refine V_aload0 eX2_ask_147 rfl ?_
              refine M_ga mb rfl eX2_ask_148 fl_X2_8_2 ?_
              refine V_bipush (v := 8) (by decide) eX2_ask_151 ?_
              refine M_sl (n := 8) mb rfl (by omega) ((va_up_self _ _ _).trans (zadd rfl rfl)) eX2_ask_153 ?_
              exact V_ireturn eX2_ask_154 rfl (Rv.p (by clear mb; (try clear ih); first | grind [o_ask] | grind [o_ask, nI_pred, nI_1]))
          · refine V_bipush (v := -4) (by decide) eX2_ask_54 ?_
            exact V_ireturn eX2_ask_56 rfl (Rv.p (by clear mb; (try clear ih); first | grind [o_ask] | grind [o_ask, nI_pred, nI_1]))
        · refine V_bipush (v := -2) (by decide) eX2_ask_39 ?_
          exact V_ireturn eX2_ask_41 rfl (Rv.p (by clear mb; (try clear ih); first | grind [o_ask] | grind [o_ask, nI_pred, nI_1]))
    · refine V_iconst (v := -1) (by decide) eX2_ask_15 ?_
      exact V_ireturn eX2_ask_16 rfl (Rv.p (by clear mb; (try clear ih); first | grind [o_ask] | grind [o_ask, nI_pred, nI_1]))

theorem c_about {w : Wd} {h : Hp} {m : Nat} {ad : Nat → Nat} {A : Nat → Nat → Int32} {B : Nat → Nat → Int64} {F S : Nat → Int32} (mb : MB h m ad) (paper : Int32) (what : Int32) {np : Nat} (hnp : S 2 = nI np) (hnp60 : np ≤ 60) : Con w mX2_about cX2_about 5 0 0 [.ref m, .int paper, .int what] (ms h A B F S) (Rv (.int (o_about S paper what).1) (ms h A B F (o_about S paper what).2)) := by
  refine Con.of (by decide +kernel) rfl rfl ?_
  show V w mX2_about cX2_about 5 0 0 _ 0 [some (.ref m), some (.int paper), some (.int what), none] [] _
  refine V_aload0 eX2_about_0 rfl ?_
  refine V_iload1 eX2_about_1 ?_
  refine M_call mb eX2_about_2 lmX2_isPaper q2123 q2125 rfl qs68 (c_isPaper mb _) rfl rfl rfl rfl ?_
  refine V_ifeq eX2_about_5 (fun c5 => ?_) (fun c5 => ?_)
  · refine V_iconst (v := -1) (by decide) eX2_about_18 ?_
    exact V_ireturn eX2_about_19 rfl (Rv.p (by clear mb hnp; (try subst hw); simp [o_about, *]))
  · obtain ⟨p, hp, rfl⟩ := zinC c5 hnp (by omega)
    have hcl : (nI p).toNatClampNeg = p := nI_clamp (by omega)
    refine V_iload2 eX2_about_8 ?_
    refine V_iconst (v := 0) (by decide) eX2_about_9 ?_
    refine V_bipush (v := 7) (by decide) eX2_about_10 ?_
    refine C0_static eX2_about_12 lmX2_in q1966 q1967 (c_in _ _ _ _) rfl rfl rfl rfl ?_
    refine V_ifne eX2_about_15 (fun c15 => ?_) (fun c15 => ?_)
    · refine V_aload0 eX2_about_20 rfl ?_
      refine M_ga mb rfl eX2_about_21 fl_X2_8_2 ?_
      refine V_sipush (v := 370) (by decide) eX2_about_24 ?_
      refine V_iload1 eX2_about_27 ?_
      refine V_iadd eX2_about_28 ?_
      refine M_sl (n := (370 + p)) mb (zadd rfl rfl) (by omega) rfl eX2_about_29 ?_
      refine V_istore3 rfl eX2_about_30 rfl ?_
      refine V_iload2 eX2_about_31 ?_
      refine V_tableswitch eX2_about_32 (fun i t ht hx => ?_) (fun hx => ?_)
      · have hi : i < 7 := (List.getElem?_eq_some_iff.mp ht).1
        rcases (show i = 0 ∨ i = 1 ∨ i = 2 ∨ i = 3 ∨ i = 4 ∨ i = 5 ∨ i = 6 by omega) with rfl | rfl | rfl | rfl | rfl | rfl | rfl
        all_goals cases ht
        · have hw : what = 0 := zti hx (by decide)
          refine V_iload3 eX2_about_76 ?_
          exact V_ireturn eX2_about_77 rfl (Rv.p (by clear mb hnp; (try subst hw); simp [o_about, *]))
        · have hw : what = 1 := zti hx (by decide)
          refine V_aload0 eX2_about_78 rfl ?_
          refine M_ga mb rfl eX2_about_79 fl_X2_8_2 ?_
          refine V_sipush (v := 430) (by decide) eX2_about_82 ?_
          refine V_iload1 eX2_about_85 ?_
          refine V_iadd eX2_about_86 ?_
          refine M_sl (n := (430 + p)) mb (zadd rfl rfl) (by omega) rfl eX2_about_87 ?_
          exact V_ireturn eX2_about_88 rfl (Rv.p (by clear mb hnp; (try subst hw); simp [o_about, *]))
        · have hw : what = 2 := zti hx (by decide)
          refine V_aload0 eX2_about_89 rfl ?_
          refine M_ga mb rfl eX2_about_90 fl_X2_8_2 ?_
          refine V_sipush (v := 490) (by decide) eX2_about_93 ?_
          refine V_iload1 eX2_about_96 ?_
          refine V_iadd eX2_about_97 ?_
          refine M_sl (n := (490 + p)) mb (zadd rfl rfl) (by omega) rfl eX2_about_98 ?_
          exact V_ireturn eX2_about_99 rfl (Rv.p (by clear mb hnp; (try subst hw); simp [o_about, *]))
        · have hw : what = 3 := zti hx (by decide)
          refine V_aload0 eX2_about_100 rfl ?_
          refine M_ga mb rfl eX2_about_101 fl_X2_8_2 ?_
          refine V_sipush (v := 550) (by decide) eX2_about_104 ?_
          refine V_iload1 eX2_about_107 ?_
          refine V_iadd eX2_about_108 ?_
          refine M_sl (n := (550 + p)) mb (zadd rfl rfl) (by omega) rfl eX2_about_109 ?_
          exact V_ireturn eX2_about_110 rfl (Rv.p (by clear mb hnp; (try subst hw); simp [o_about, *]))
        · have hw : what = 4 := zti hx (by decide)
          refine V_aload0 eX2_about_111 rfl ?_
          refine M_ga mb rfl eX2_about_112 fl_X2_8_2 ?_
          refine V_sipush (v := 610) (by decide) eX2_about_115 ?_
          refine V_iload1 eX2_about_118 ?_
          refine V_iadd eX2_about_119 ?_
          refine M_sl (n := (610 + p)) mb (zadd rfl rfl) (by omega) rfl eX2_about_120 ?_
          exact V_ireturn eX2_about_121 rfl (Rv.p (by clear mb hnp; (try subst hw); simp [o_about, *]))
        · have hw : what = 5 := zti hx (by decide)
          refine V_aload0 eX2_about_122 rfl ?_
          refine M_ga mb rfl eX2_about_123 fl_X2_8_2 ?_
          refine V_sipush (v := 670) (by decide) eX2_about_126 ?_
          refine V_iload1 eX2_about_129 ?_
          refine V_iadd eX2_about_130 ?_
          refine M_sl (n := (670 + p)) mb (zadd rfl rfl) (by omega) rfl eX2_about_131 ?_
          exact V_ireturn eX2_about_132 rfl (Rv.p (by clear mb hnp; (try subst hw); simp [o_about, *]))
        · have hw : what = 6 := zti hx (by decide)
          refine V_aload0 eX2_about_133 rfl ?_
          refine M_ga mb rfl eX2_about_134 fl_X2_8_2 ?_
          refine V_sipush (v := 730) (by decide) eX2_about_137 ?_
          refine V_iload1 eX2_about_140 ?_
          refine V_iadd eX2_about_141 ?_
          refine M_sl (n := (730 + p)) mb (zadd rfl rfl) (by omega) rfl eX2_about_142 ?_
          exact V_ireturn eX2_about_143 rfl (Rv.p (by clear mb hnp; (try subst hw); simp [o_about, *]))
      · have hw : what = 7 := by
          obtain ⟨q, hq, rfl⟩ := zinN (m := 7) c15 rfl (by decide)
          rw [nI_toInt (by omega)] at hx
          rw [show q = 7 by simp only [List.length_cons, List.length_nil] at hx; omega]; rfl
        refine V_aload0 eX2_about_144 rfl ?_
        refine M_ga mb rfl eX2_about_145 fl_X2_8_2 ?_
        refine V_sipush (v := 790) (by decide) eX2_about_148 ?_
        refine V_iload1 eX2_about_151 ?_
        refine V_iadd eX2_about_152 ?_
        refine M_sl (n := (790 + p)) mb (zadd rfl rfl) (by omega) rfl eX2_about_153 ?_
        exact V_ireturn eX2_about_154 rfl (Rv.p (by clear mb hnp; (try subst hw); simp [o_about, *]))
    · refine V_iconst (v := -1) (by decide) eX2_about_18 ?_
      exact V_ireturn eX2_about_19 rfl (Rv.p (by clear mb hnp; (try subst hw); simp [o_about, *]))

theorem c_isUnder {w : Wd} (h : Hp) (kind k : Int32) : Con w mX2_isUnder cX2_isUnder 1 0 0 [.int kind, .int k] h (Rv (.int (bI (zund kind k))) h) := by
  refine Con.of (by decide +kernel) rfl rfl ?_
  show V w mX2_isUnder cX2_isUnder 1 0 0 _ 0 [some (.int kind), some (.int k)] [] _
  refine V_iload1 eX2_isUnder_0 ?_
  refine V_ifeq eX2_isUnder_1 (fun c1 => ?_) (fun c1 => ?_)
  · refine V_iconst (v := 1) (by decide) eX2_isUnder_29 ?_
    refine V_goto eX2_isUnder_30 ?_
    exact V_zreturn eX2_isUnder_34 rfl (by decide) (Rv.i (by simp_all [zund, bI]))
  · refine V_iload0 eX2_isUnder_4 ?_
    refine V_iload1 eX2_isUnder_5 ?_
    refine V_if_icmpeq eX2_isUnder_6 (fun c6 => ?_) (fun c6 => ?_)
    · refine V_iconst (v := 1) (by decide) eX2_isUnder_29 ?_
      refine V_goto eX2_isUnder_30 ?_
      exact V_zreturn eX2_isUnder_34 rfl (by decide) (Rv.i (by simp_all [zund, bI]))
    · refine V_iload1 eX2_isUnder_9 ?_
      refine V_iconst (v := 1) (by decide) eX2_isUnder_10 ?_
      refine V_if_icmpne eX2_isUnder_11 (fun c11 => ?_) (fun c11 => ?_)
      · refine V_iload1 eX2_isUnder_19 ?_
        refine V_iconst (v := 4) (by decide) eX2_isUnder_20 ?_
        refine V_if_icmpne eX2_isUnder_21 (fun c21 => ?_) (fun c21 => ?_)
        · refine V_iconst (v := 0) (by decide) eX2_isUnder_33 ?_
          exact V_zreturn eX2_isUnder_34 rfl (by decide) (Rv.i (by simp_all [zund, bI]))
        · refine V_iload0 eX2_isUnder_24 ?_
          refine V_iconst (v := 5) (by decide) eX2_isUnder_25 ?_
          refine V_if_icmpne eX2_isUnder_26 (fun c26 => ?_) (fun c26 => ?_)
          · refine V_iconst (v := 0) (by decide) eX2_isUnder_33 ?_
            exact V_zreturn eX2_isUnder_34 rfl (by decide) (Rv.i (by simp_all [zund, bI]))
          · refine V_iconst (v := 1) (by decide) eX2_isUnder_29 ?_
            refine V_goto eX2_isUnder_30 ?_
            exact V_zreturn eX2_isUnder_34 rfl (by decide) (Rv.i (by simp_all [zund, bI]))
      · refine V_iload0 eX2_isUnder_14 ?_
        refine V_iconst (v := 4) (by decide) eX2_isUnder_15 ?_
        refine V_if_icmplt eX2_isUnder_16 (fun c16 => ?_) (fun c16 => ?_)
        · refine V_iconst (v := 1) (by decide) eX2_isUnder_29 ?_
          refine V_goto eX2_isUnder_30 ?_
          exact V_zreturn eX2_isUnder_34 rfl (by decide) (Rv.i (by simp_all [zund, bI]))
        · refine V_iload1 eX2_isUnder_19 ?_
          refine V_iconst (v := 4) (by decide) eX2_isUnder_20 ?_
          refine V_if_icmpne eX2_isUnder_21 (fun c21 => ?_) (fun c21 => ?_)
          · refine V_iconst (v := 0) (by decide) eX2_isUnder_33 ?_
            exact V_zreturn eX2_isUnder_34 rfl (by decide) (Rv.i (by simp_all [zund, bI]))
          · refine V_iload0 eX2_isUnder_24 ?_
            refine V_iconst (v := 5) (by decide) eX2_isUnder_25 ?_
            refine V_if_icmpne eX2_isUnder_26 (fun c26 => ?_) (fun c26 => ?_)
            · refine V_iconst (v := 0) (by decide) eX2_isUnder_33 ?_
              exact V_zreturn eX2_isUnder_34 rfl (by decide) (Rv.i (by simp_all [zund, bI]))
            · refine V_iconst (v := 1) (by decide) eX2_isUnder_29 ?_
              refine V_goto eX2_isUnder_30 ?_
              exact V_zreturn eX2_isUnder_34 rfl (by decide) (Rv.i (by simp_all [zund, bI]))

theorem c_worth0 {w : Wd} {h : Hp} {m : Nat} {ad : Nat → Nat} {A : Nat → Nat → Int32} {B : Nat → Nat → Int64} {F S : Nat → Int32} (mb : MB h m ad) {p : Nat} (hp : p < 60) (h3 : ¬ S (370 + p) = 3) (h2 : S (370 + p) = 2 → ∃ q, S (430 + p) = nI q ∧ q < 60) : Con w mX2_worth cX2_worth 1 0 0 [.ref m, .int (nI p)] (ms h A B F S) (Rv (.int (zw0 S p)) (ms h A B F S)) := by
  refine Con.of (by decide +kernel) rfl rfl ?_
  show V w mX2_worth cX2_worth 1 0 0 _ 0 [some (.ref m), some (.int (nI p))] [] _
  refine V_aload0 eX2_worth_0 rfl ?_
  refine M_ga mb rfl eX2_worth_1 fl_X2_8_2 ?_
  refine V_sipush (v := 370) (by decide) eX2_worth_4 ?_
  refine V_iload1 eX2_worth_7 ?_
  refine V_iadd eX2_worth_8 ?_
  refine M_sl (n := (370 + p)) mb (zadd rfl rfl) (by omega) rfl eX2_worth_9 ?_
  refine V_tableswitch eX2_worth_10 (fun i t ht hx => ?_) (fun hx => ?_)
  · have hi : i < 5 := (List.getElem?_eq_some_iff.mp ht).1
    rcases (show i = 0 ∨ i = 1 ∨ i = 2 ∨ i = 3 ∨ i = 4 by omega) with rfl | rfl | rfl | rfl | rfl
    all_goals cases ht
    · have hk : S (370 + p) = 1 := zti hx (by decide)
      refine V_bipush (v := 10) (by decide) eX2_worth_44 ?_
      refine V_aload0 eX2_worth_46 rfl ?_
      refine M_ga mb rfl eX2_worth_47 fl_X2_8_2 ?_
      refine V_sipush (v := 730) (by decide) eX2_worth_50 ?_
      refine V_iload1 eX2_worth_53 ?_
      refine V_iadd eX2_worth_54 ?_
      refine M_sl (n := (730 + p)) mb (zadd rfl rfl) (by omega) rfl eX2_worth_55 ?_
      refine V_iadd eX2_worth_56 ?_
      exact V_ireturn eX2_worth_57 rfl (Rv.i (by simp [zw0, *]))
    · have hk : S (370 + p) = 2 := zti hx (by decide)
      obtain ⟨q, hq1, hq2⟩ := h2 hk
      have hqs := sn_of hq1 (by omega)
      refine V_bipush (v := 10) (by decide) eX2_worth_58 ?_
      refine V_aload0 eX2_worth_60 rfl ?_
      refine M_ga mb rfl eX2_worth_61 fl_X2_8_2 ?_
      refine V_sipush (v := 730) (by decide) eX2_worth_64 ?_
      refine V_aload0 eX2_worth_67 rfl ?_
      refine M_ga mb rfl eX2_worth_68 fl_X2_8_2 ?_
      refine V_sipush (v := 430) (by decide) eX2_worth_71 ?_
      refine V_iload1 eX2_worth_74 ?_
      refine V_iadd eX2_worth_75 ?_
      refine M_sl (n := (430 + p)) mb (zadd rfl rfl) (by omega) hq1 eX2_worth_76 ?_
      refine V_iadd eX2_worth_77 ?_
      refine M_sl (n := (730 + q)) mb (zadd rfl rfl) (by omega) rfl eX2_worth_78 ?_
      refine V_iadd eX2_worth_79 ?_
      refine V_aload0 eX2_worth_80 rfl ?_
      refine M_ga mb rfl eX2_worth_81 fl_X2_8_2 ?_
      refine V_sipush (v := 850) (by decide) eX2_worth_84 ?_
      refine V_iload1 eX2_worth_87 ?_
      refine V_iadd eX2_worth_88 ?_
      refine M_sl (n := (850 + p)) mb (zadd rfl rfl) (by omega) rfl eX2_worth_89 ?_
      refine V_iadd eX2_worth_90 ?_
      exact V_ireturn eX2_worth_91 rfl (Rv.i (by simp [zw0, *]))
    · exact absurd (zti hx (by decide)) h3
      skip
    · have hk : S (370 + p) = 4 := zti hx (by decide)
      refine V_iconst (v := 4) (by decide) eX2_worth_109 ?_
      refine V_aload0 eX2_worth_110 rfl ?_
      refine M_ga mb rfl eX2_worth_111 fl_X2_8_2 ?_
      refine V_sipush (v := 730) (by decide) eX2_worth_114 ?_
      refine V_iload1 eX2_worth_117 ?_
      refine V_iadd eX2_worth_118 ?_
      refine M_sl (n := (730 + p)) mb (zadd rfl rfl) (by omega) rfl eX2_worth_119 ?_
      refine V_iadd eX2_worth_120 ?_
      exact V_ireturn eX2_worth_121 rfl (Rv.i (by simp [zw0, *]))
    · have hk : S (370 + p) = 5 := zti hx (by decide)
      refine V_iconst (v := 2) (by decide) eX2_worth_122 ?_
      refine V_iconst (v := 4) (by decide) eX2_worth_123 ?_
      refine V_aload0 eX2_worth_124 rfl ?_
      refine M_ga mb rfl eX2_worth_125 fl_X2_8_2 ?_
      refine V_sipush (v := 730) (by decide) eX2_worth_128 ?_
      refine V_iload1 eX2_worth_131 ?_
      refine V_iadd eX2_worth_132 ?_
      refine M_sl (n := (730 + p)) mb (zadd rfl rfl) (by omega) rfl eX2_worth_133 ?_
      refine V_iadd eX2_worth_134 ?_
      refine V_imul eX2_worth_135 ?_
      refine V_iconst (v := 1) (by decide) eX2_worth_136 ?_
      refine V_isub eX2_worth_137 ?_
      exact V_ireturn eX2_worth_138 rfl (Rv.i (by simp [zw0, *]))
  · have hk1 : ¬ S (370 + p) = 1 := fun q => by rw [q] at hx; revert hx; decide
    have hk2 : ¬ S (370 + p) = 2 := fun q => by rw [q] at hx; revert hx; decide
    have hk4 : ¬ S (370 + p) = 4 := fun q => by rw [q] at hx; revert hx; decide
    have hk5 : ¬ S (370 + p) = 5 := fun q => by rw [q] at hx; revert hx; decide
    refine V_iconst (v := 1) (by decide) eX2_worth_139 ?_
    refine V_aload0 eX2_worth_140 rfl ?_
    refine M_ga mb rfl eX2_worth_141 fl_X2_8_2 ?_
    refine V_sipush (v := 730) (by decide) eX2_worth_144 ?_
    refine V_iload1 eX2_worth_147 ?_
    refine V_iadd eX2_worth_148 ?_
    refine M_sl (n := (730 + p)) mb (zadd rfl rfl) (by omega) rfl eX2_worth_149 ?_
    refine V_iadd eX2_worth_150 ?_
    exact V_ireturn eX2_worth_151 rfl (Rv.i (by simp [zw0, *]))

theorem c_worth {w : Wd} {h : Hp} {m : Nat} {ad : Nat → Nat} {A : Nat → Nat → Int32} {B : Nat → Nat → Int64} {F S : Nat → Int32} (mb : MB h m ad) {p : Nat} (hp : p < 60) (h2 : S (370 + p) = 2 → ∃ q, S (430 + p) = nI q ∧ q < 60) (h3 : S (370 + p) = 3 → ∃ q, S (430 + p) = nI q ∧ q < 60 ∧ ¬ S (370 + q) = 3 ∧ (S (370 + q) = 2 → ∃ r, S (430 + q) = nI r ∧ r < 60)) : Con w mX2_worth cX2_worth 2 0 0 [.ref m, .int (nI p)] (ms h A B F S) (Rv (.int (zworth S p)) (ms h A B F S)) := by
  refine Con.of (by decide +kernel) rfl rfl ?_
  show V w mX2_worth cX2_worth 2 0 0 _ 0 [some (.ref m), some (.int (nI p))] [] _
  refine V_aload0 eX2_worth_0 rfl ?_
  refine M_ga mb rfl eX2_worth_1 fl_X2_8_2 ?_
  refine V_sipush (v := 370) (by decide) eX2_worth_4 ?_
  refine V_iload1 eX2_worth_7 ?_
  refine V_iadd eX2_worth_8 ?_
  refine M_sl (n := (370 + p)) mb (zadd rfl rfl) (by omega) rfl eX2_worth_9 ?_
  refine V_tableswitch eX2_worth_10 (fun i t ht hx => ?_) (fun hx => ?_)
  · have hi : i < 5 := (List.getElem?_eq_some_iff.mp ht).1
    rcases (show i = 0 ∨ i = 1 ∨ i = 2 ∨ i = 3 ∨ i = 4 by omega) with rfl | rfl | rfl | rfl | rfl
    all_goals cases ht
    · have hk : S (370 + p) = 1 := zti hx (by decide)
      refine V_bipush (v := 10) (by decide) eX2_worth_44 ?_
      refine V_aload0 eX2_worth_46 rfl ?_
      refine M_ga mb rfl eX2_worth_47 fl_X2_8_2 ?_
      refine V_sipush (v := 730) (by decide) eX2_worth_50 ?_
      refine V_iload1 eX2_worth_53 ?_
      refine V_iadd eX2_worth_54 ?_
      refine M_sl (n := (730 + p)) mb (zadd rfl rfl) (by omega) rfl eX2_worth_55 ?_
      refine V_iadd eX2_worth_56 ?_
      exact V_ireturn eX2_worth_57 rfl (Rv.i (by simp [zworth, zw0, *]))
    · have hk : S (370 + p) = 2 := zti hx (by decide)
      obtain ⟨q, hq1, hq2⟩ := h2 hk
      have hqs := sn_of hq1 (by omega)
      refine V_bipush (v := 10) (by decide) eX2_worth_58 ?_
      refine V_aload0 eX2_worth_60 rfl ?_
      refine M_ga mb rfl eX2_worth_61 fl_X2_8_2 ?_
      refine V_sipush (v := 730) (by decide) eX2_worth_64 ?_
      refine V_aload0 eX2_worth_67 rfl ?_
      refine M_ga mb rfl eX2_worth_68 fl_X2_8_2 ?_
      refine V_sipush (v := 430) (by decide) eX2_worth_71 ?_
      refine V_iload1 eX2_worth_74 ?_
      refine V_iadd eX2_worth_75 ?_
      refine M_sl (n := (430 + p)) mb (zadd rfl rfl) (by omega) hq1 eX2_worth_76 ?_
      refine V_iadd eX2_worth_77 ?_
      refine M_sl (n := (730 + q)) mb (zadd rfl rfl) (by omega) rfl eX2_worth_78 ?_
      refine V_iadd eX2_worth_79 ?_
      refine V_aload0 eX2_worth_80 rfl ?_
      refine M_ga mb rfl eX2_worth_81 fl_X2_8_2 ?_
      refine V_sipush (v := 850) (by decide) eX2_worth_84 ?_
      refine V_iload1 eX2_worth_87 ?_
      refine V_iadd eX2_worth_88 ?_
      refine M_sl (n := (850 + p)) mb (zadd rfl rfl) (by omega) rfl eX2_worth_89 ?_
      refine V_iadd eX2_worth_90 ?_
      exact V_ireturn eX2_worth_91 rfl (Rv.i (by simp [zworth, zw0, *]))
    · have hk : S (370 + p) = 3 := zti hx (by decide)
      obtain ⟨q, hq1, hq2, h4, h5⟩ := h3 hk
      have hqs := sn_of hq1 (by omega)
      refine V_iconst (v := 2) (by decide) eX2_worth_92 ?_
      refine V_aload0 eX2_worth_93 rfl ?_
      refine V_aload0 eX2_worth_94 rfl ?_
      refine M_ga mb rfl eX2_worth_95 fl_X2_8_2 ?_
      refine V_sipush (v := 430) (by decide) eX2_worth_98 ?_
      refine V_iload1 eX2_worth_101 ?_
      refine V_iadd eX2_worth_102 ?_
      refine M_sl (n := (430 + p)) mb (zadd rfl rfl) (by omega) hq1 eX2_worth_103 ?_
      refine M_call mb eX2_worth_104 lmX2_worth q2245 q2247 rfl qs84 (c_worth0 mb hq2 h4 h5) rfl rfl rfl rfl ?_
      refine V_imul eX2_worth_107 ?_
      exact V_ireturn eX2_worth_108 rfl (Rv.i (by simp [zworth, zw0, *]))
    · have hk : S (370 + p) = 4 := zti hx (by decide)
      refine V_iconst (v := 4) (by decide) eX2_worth_109 ?_
      refine V_aload0 eX2_worth_110 rfl ?_
      refine M_ga mb rfl eX2_worth_111 fl_X2_8_2 ?_
      refine V_sipush (v := 730) (by decide) eX2_worth_114 ?_
      refine V_iload1 eX2_worth_117 ?_
      refine V_iadd eX2_worth_118 ?_
      refine M_sl (n := (730 + p)) mb (zadd rfl rfl) (by omega) rfl eX2_worth_119 ?_
      refine V_iadd eX2_worth_120 ?_
      exact V_ireturn eX2_worth_121 rfl (Rv.i (by simp [zworth, zw0, *]))
    · have hk : S (370 + p) = 5 := zti hx (by decide)
      refine V_iconst (v := 2) (by decide) eX2_worth_122 ?_
      refine V_iconst (v := 4) (by decide) eX2_worth_123 ?_
      refine V_aload0 eX2_worth_124 rfl ?_
      refine M_ga mb rfl eX2_worth_125 fl_X2_8_2 ?_
      refine V_sipush (v := 730) (by decide) eX2_worth_128 ?_
      refine V_iload1 eX2_worth_131 ?_
      refine V_iadd eX2_worth_132 ?_
      refine M_sl (n := (730 + p)) mb (zadd rfl rfl) (by omega) rfl eX2_worth_133 ?_
      refine V_iadd eX2_worth_134 ?_
      refine V_imul eX2_worth_135 ?_
      refine V_iconst (v := 1) (by decide) eX2_worth_136 ?_
      refine V_isub eX2_worth_137 ?_
      exact V_ireturn eX2_worth_138 rfl (Rv.i (by simp [zworth, zw0, *]))
  · have hk1 : ¬ S (370 + p) = 1 := fun q => by rw [q] at hx; revert hx; decide
    have hk2 : ¬ S (370 + p) = 2 := fun q => by rw [q] at hx; revert hx; decide
    have hk4 : ¬ S (370 + p) = 4 := fun q => by rw [q] at hx; revert hx; decide
    have hk5 : ¬ S (370 + p) = 5 := fun q => by rw [q] at hx; revert hx; decide
    have hk3 : ¬ S (370 + p) = 3 := fun q => by rw [q] at hx; revert hx; decide
    refine V_iconst (v := 1) (by decide) eX2_worth_139 ?_
    refine V_aload0 eX2_worth_140 rfl ?_
    refine M_ga mb rfl eX2_worth_141 fl_X2_8_2 ?_
    refine V_sipush (v := 730) (by decide) eX2_worth_144 ?_
    refine V_iload1 eX2_worth_147 ?_
    refine V_iadd eX2_worth_148 ?_
    refine M_sl (n := (730 + p)) mb (zadd rfl rfl) (by omega) rfl eX2_worth_149 ?_
    refine V_iadd eX2_worth_150 ?_
    exact V_ireturn eX2_worth_151 rfl (Rv.i (by simp [zworth, zw0, *]))

theorem c_cast {w : Wd} {h : Hp} {m : Nat} {ad : Nat → Nat} {A : Nat → Nat → Int32} {B : Nat → Nat → Int64} {F S : Nat → Int32} (mb : MB h m ad) (paper : Int32) (k : Int32) {np : Nat} (hnp : S 2 = nI np) (hnp60 : np ≤ 60) (hw2 : ∀ p, p < np → S (370 + p) = 2 → ∃ q, S (430 + p) = nI q ∧ q < 60) (hw3 : ∀ p, p < np → S (370 + p) = 3 → ∃ q, S (430 + p) = nI q ∧ q < 60 ∧ ¬ S (370 + q) = 3 ∧ (S (370 + q) = 2 → ∃ r, S (430 + q) = nI r ∧ r < 60)) : Con w mX2_cast cX2_cast 5 0 0 [.ref m, .int paper, .int k] (ms h A B F S) (Rv (.int (o_cast S paper k).1) (ms h A B F (o_cast S paper k).2)) := by
  refine Con.of (by decide +kernel) rfl rfl ?_
  show V w mX2_cast cX2_cast 5 0 0 _ 0 [some (.ref m), some (.int paper), some (.int k)] [] _
  refine V_aload0 eX2_cast_0 rfl ?_
  refine V_iload1 eX2_cast_1 ?_
  refine M_call mb eX2_cast_2 lmX2_isPaper q2123 q2125 rfl qs68 (c_isPaper mb _) rfl rfl rfl rfl ?_
  refine V_ifeq eX2_cast_5 (fun c5 => ?_) (fun c5 => ?_)
  · refine V_iconst (v := -1) (by decide) eX2_cast_18 ?_
    exact V_ireturn eX2_cast_19 rfl (Rv.p (by clear mb hw2 hw3; grind [o_cast]))
  · obtain ⟨p, hp, rfl⟩ := zinC c5 hnp (by omega)
    have hcl : (nI p).toNatClampNeg = p := nI_clamp (by omega)
    refine V_iload2 eX2_cast_8 ?_
    refine V_iconst (v := 0) (by decide) eX2_cast_9 ?_
    refine V_bipush (v := 6) (by decide) eX2_cast_10 ?_
    refine C0_static eX2_cast_12 lmX2_in q1966 q1967 (c_in _ _ _ _) rfl rfl rfl rfl ?_
    refine V_ifne eX2_cast_15 (fun c15 => ?_) (fun c15 => ?_)
    · refine V_aload0 eX2_cast_20 rfl ?_
      refine M_ga mb rfl eX2_cast_21 fl_X2_8_2 ?_
      refine V_sipush (v := 370) (by decide) eX2_cast_24 ?_
      refine V_iload1 eX2_cast_27 ?_
      refine V_iadd eX2_cast_28 ?_
      refine M_sl (n := (370 + p)) mb (zadd rfl rfl) (by omega) rfl eX2_cast_29 ?_
      refine V_iload2 eX2_cast_30 ?_
      refine C0_static eX2_cast_31 lmX2_isUnder q2242 q2243 (c_isUnder _ _ _) rfl rfl rfl rfl ?_
      refine V_ifeq eX2_cast_34 (fun c34 => ?_) (fun c34 => ?_)
      · have hu := bI_0.mp c34
        refine V_bipush (v := -13) (by decide) eX2_cast_45 ?_
        exact V_ireturn eX2_cast_47 rfl (Rv.p (by clear mb hw2 hw3; grind [o_cast]))
      · have hu := bI_n0.mp c34
        refine V_aload0 eX2_cast_37 rfl ?_
        refine V_iload1 eX2_cast_38 ?_
        refine M_call mb eX2_cast_39 lmX2_worth q2245 q2247 rfl qs84 (c_worth mb (p := p) (by omega) (hw2 p hp) (hw3 p hp)) rfl rfl rfl rfl ?_
        refine V_goto eX2_cast_42 ?_
        exact V_ireturn eX2_cast_47 rfl (Rv.p (by clear mb hw2 hw3; grind [o_cast]))
    · refine V_iconst (v := -1) (by decide) eX2_cast_18 ?_
      exact V_ireturn eX2_cast_19 rfl (Rv.p (by clear mb hw2 hw3; grind [o_cast]))

theorem c_granted {w : Wd} {h : Hp} {m : Nat} {ad : Nat → Nat} {A : Nat → Nat → Int32} {B : Nat → Nat → Int64} {F S : Nat → Int32} (mb : MB h m ad) {np : Nat} (hnp : S 2 = nI np) (hnp60 : np ≤ 60) : Con w mX2_granted cX2_granted 2 0 0 [.ref m] (ms h A B F S) (Rv (.int (zfold (fGr S) np 0)) (ms h A B F S)) := by
  refine Con.of (by decide +kernel) rfl rfl ?_
  show V w mX2_granted cX2_granted 2 0 0 _ 0 [some (.ref m), none, none] [] _
  refine V_iconst (v := 0) (by decide) eX2_granted_0 ?_
  refine V_istore1 rfl eX2_granted_1 rfl ?_
  refine V_iconst (v := 0) (by decide) eX2_granted_2 ?_
  refine V_istore2 rfl eX2_granted_3 rfl ?_
  refine zloop (P := fun i => ∀ acc : Int32, acc = zfold (fGr S) i 0 → V w mX2_granted cX2_granted 2 0 0 (ms h A B F S) 4 [some (.ref m), some (.int acc), some (.int (nI i))] [] _) np (fun i hi ih acc ha => ?_) 0 (Nat.zero_le _) 0 rfl
  refine V_iload2 eX2_granted_4 ?_
  refine V_aload0 eX2_granted_5 rfl ?_
  refine M_ga mb rfl eX2_granted_6 fl_X2_8_2 ?_
  refine V_iconst (v := 2) (by decide) eX2_granted_9 ?_
  refine M_sl (n := 2) mb rfl (by omega) hnp eX2_granted_10 ?_
  refine V_if_icmpge eX2_granted_11 (fun c11 => ?_) (fun c11 => ?_)
  · have e : i = np := by have := nle c11 (by omega) (by omega); omega
    refine V_iload1 eX2_granted_36 ?_
    exact V_ireturn eX2_granted_37 rfl (Rv.i (by rw [ha, e]))
  · have hlt := nnle c11 (by omega) (by omega)
    refine V_iload1 eX2_granted_14 ?_
    refine V_aload0 eX2_granted_15 rfl ?_
    refine V_iload2 eX2_granted_16 ?_
    refine M_call mb eX2_granted_17 lmX2_isGranted q2230 q2232 rfl qs82 (c_isGranted mb (p := i) (by omega)) rfl rfl rfl rfl ?_
    refine V_ifeq eX2_granted_20 (fun c20 => ?_) (fun c20 => ?_)
    · have hb := c20
      refine V_iconst (v := 0) (by decide) eX2_granted_27 ?_
      refine V_iadd eX2_granted_28 ?_
      refine V_istore1 rfl eX2_granted_29 rfl ?_
      refine V_iincN2 rfl eX2_granted_30 rfl ?_
      refine V_goto eX2_granted_33 ?_
      exact ih hlt _ (by rw [ha, zfold, fGr]; simp only [hb])
    · have hb := bI_1.mpr (bI_n0.mp c20)
      refine V_iconst (v := 1) (by decide) eX2_granted_23 ?_
      refine V_goto eX2_granted_24 ?_
      refine V_iadd eX2_granted_28 ?_
      refine V_istore1 rfl eX2_granted_29 rfl ?_
      refine V_iincN2 rfl eX2_granted_30 rfl ?_
      refine V_goto eX2_granted_33 ?_
      exact ih hlt _ (by rw [ha, zfold, fGr]; simp only [hb])

theorem c_count {w : Wd} {h : Hp} {m : Nat} {ad : Nat → Nat} {A : Nat → Nat → Int32} {B : Nat → Nat → Int64} {F S : Nat → Int32} (mb : MB h m ad) (what : Int32) {np : Nat} (hnp : S 2 = nI np) (hnp60 : np ≤ 60) : Con w mX2_count cX2_count 5 0 0 [.ref m, .int what] (ms h A B F S) (Rv (.int (o_count S what).1) (ms h A B F (o_count S what).2)) := by
  refine Con.of (by decide +kernel) rfl rfl ?_
  show V w mX2_count cX2_count 5 0 0 _ 0 [some (.ref m), some (.int what), none, none] [] _
  refine V_iconst (v := 0) (by decide) eX2_count_0 ?_
  refine V_istore2 rfl eX2_count_1 rfl ?_
  refine V_iload1 eX2_count_2 ?_
  refine V_tableswitch eX2_count_3 (fun i t ht hx => ?_) (fun hx => ?_)
  · have hi : i < 11 := (List.getElem?_eq_some_iff.mp ht).1
    rcases (show i = 0 ∨ i = 1 ∨ i = 2 ∨ i = 3 ∨ i = 4 ∨ i = 5 ∨ i = 6 ∨ i = 7 ∨ i = 8 ∨ i = 9 ∨ i = 10 by omega) with rfl | rfl | rfl | rfl | rfl | rfl | rfl | rfl | rfl | rfl | rfl
    all_goals cases ht
    · have hw : what = 0 := zti hx (by decide)
      refine V_aload0 eX2_count_60 rfl ?_
      refine M_ga mb rfl eX2_count_61 fl_X2_8_2 ?_
      refine V_iconst (v := 1) (by decide) eX2_count_64 ?_
      refine M_sl (n := 1) mb rfl (by omega) rfl eX2_count_65 ?_
      exact V_ireturn eX2_count_66 rfl (Rv.p (by clear mb; have hs := sn_of hnp (by omega); (try clear ih); (try subst hw); simp [o_count, *]))
    · have hw : what = 1 := zti hx (by decide)
      refine V_aload0 eX2_count_67 rfl ?_
      refine M_ga mb rfl eX2_count_68 fl_X2_8_2 ?_
      refine V_iconst (v := 2) (by decide) eX2_count_71 ?_
      refine M_sl (n := 2) mb rfl (by omega) hnp eX2_count_72 ?_
      exact V_ireturn eX2_count_73 rfl (Rv.p (by clear mb; have hs := sn_of hnp (by omega); (try clear ih); (try subst hw); simp [o_count, *]))
    · have hw : what = 2 := zti hx (by decide)
      refine V_aload0 eX2_count_74 rfl ?_
      refine M_ga mb rfl eX2_count_75 fl_X2_8_2 ?_
      refine V_iconst (v := 3) (by decide) eX2_count_78 ?_
      refine M_sl (n := 3) mb rfl (by omega) rfl eX2_count_79 ?_
      exact V_ireturn eX2_count_80 rfl (Rv.p (by clear mb; have hs := sn_of hnp (by omega); (try clear ih); (try subst hw); simp [o_count, *]))
    · have hw : what = 3 := zti hx (by decide)
      refine V_aload0 eX2_count_81 rfl ?_
      refine M_ga mb rfl eX2_count_82 fl_X2_8_2 ?_
      refine V_iconst (v := 0) (by decide) eX2_count_85 ?_
      refine M_sl (n := 0) mb rfl (by omega) rfl eX2_count_86 ?_
      exact V_ireturn eX2_count_87 rfl (Rv.p (by clear mb; have hs := sn_of hnp (by omega); (try clear ih); (try subst hw); simp [o_count, *]))
    · have hw : what = 4 := zti hx (by decide)
      refine V_aload0 eX2_count_88 rfl ?_
      refine M_ga mb rfl eX2_count_89 fl_X2_8_2 ?_
      refine V_iconst (v := 4) (by decide) eX2_count_92 ?_
      refine M_sl (n := 4) mb rfl (by omega) rfl eX2_count_93 ?_
      exact V_ireturn eX2_count_94 rfl (Rv.p (by clear mb; have hs := sn_of hnp (by omega); (try clear ih); (try subst hw); simp [o_count, *]))
    · have hw : what = 5 := zti hx (by decide)
      refine V_aload0 eX2_count_95 rfl ?_
      refine M_ga mb rfl eX2_count_96 fl_X2_8_2 ?_
      refine V_iconst (v := 5) (by decide) eX2_count_99 ?_
      refine M_sl (n := 5) mb rfl (by omega) rfl eX2_count_100 ?_
      exact V_ireturn eX2_count_101 rfl (Rv.p (by clear mb; have hs := sn_of hnp (by omega); (try clear ih); (try subst hw); simp [o_count, *]))
    · have hw : what = 6 := zti hx (by decide)
      refine V_aload0 eX2_count_102 rfl ?_
      refine M_call mb eX2_count_103 lmX2_granted q2234 q2236 rfl qs83 (c_granted mb hnp hnp60) rfl rfl rfl rfl ?_
      exact V_ireturn eX2_count_106 rfl (Rv.p (by clear mb; have hs := sn_of hnp (by omega); (try clear ih); (try subst hw); simp [o_count, *]))
    · have hw : what = 7 := zti hx (by decide)
      refine V_iconst (v := 0) (by decide) eX2_count_107 ?_
      refine V_istore3 rfl eX2_count_108 rfl ?_
      refine zloop (P := fun i => ∀ acc : Int32, acc = zfold (fDn S) i 0 → V w mX2_count cX2_count 5 0 0 (ms h A B F S) 109 [some (.ref m), some (.int what), some (.int acc), some (.int (nI i))] [] _) np (fun i hi ih acc ha => ?_) 0 (Nat.zero_le _) 0 rfl
      refine V_iload3 eX2_count_109 ?_
      refine V_aload0 eX2_count_110 rfl ?_
      refine M_ga mb rfl eX2_count_111 fl_X2_8_2 ?_
      refine V_iconst (v := 2) (by decide) eX2_count_114 ?_
      refine M_sl (n := 2) mb rfl (by omega) hnp eX2_count_115 ?_
      refine V_if_icmpge eX2_count_116 (fun c116 => ?_) (fun c116 => ?_)
      · have e : i = np := by have := nle c116 (by omega) (by omega); omega
        subst e
        refine V_iload2 eX2_count_154 ?_
        exact V_ireturn eX2_count_155 rfl (Rv.p (by clear mb; have hs := sn_of hnp (by omega); (try clear ih); (try subst hw); simp [o_count, *]))
      · have hlt := nnle c116 (by omega) (by omega)
        refine V_iload2 eX2_count_119 ?_
        refine V_aload0 eX2_count_120 rfl ?_
        refine V_iload3 eX2_count_121 ?_
        refine M_call mb eX2_count_122 lmX2_isGranted q2230 q2232 rfl qs82 (c_isGranted mb (p := i) (by omega)) rfl rfl rfl rfl ?_
        refine V_ifeq eX2_count_125 (fun c125 => ?_) (fun c125 => ?_)
        · have hb : bI (decide (S (370 + i) = 3) && decide (S (790 + i) = 1) && decide (S (970 + i) = 0)) = 0 := by rw [bI_0.mp c125]; rfl
          refine V_iconst (v := 0) (by decide) eX2_count_145 ?_
          refine V_iadd eX2_count_146 ?_
          refine V_istore2 rfl eX2_count_147 rfl ?_
          refine V_iincN3 rfl eX2_count_148 rfl ?_
          refine V_goto eX2_count_151 ?_
          exact ih hlt _ (by rw [ha, zfold, fDn]; simp only [hb])
        · refine V_aload0 eX2_count_128 rfl ?_
          refine M_ga mb rfl eX2_count_129 fl_X2_8_2 ?_
          refine V_sipush (v := 970) (by decide) eX2_count_132 ?_
          refine V_iload3 eX2_count_135 ?_
          refine V_iadd eX2_count_136 ?_
          refine M_sl (n := (970 + i)) mb (zadd rfl rfl) (by omega) rfl eX2_count_137 ?_
          refine V_ifne eX2_count_138 (fun c138 => ?_) (fun c138 => ?_)
          · have hb : bI (decide (S (370 + i) = 3) && decide (S (790 + i) = 1) && decide (S (970 + i) = 0)) = 0 := by simp [c138, bI]
            refine V_iconst (v := 0) (by decide) eX2_count_145 ?_
            refine V_iadd eX2_count_146 ?_
            refine V_istore2 rfl eX2_count_147 rfl ?_
            refine V_iincN3 rfl eX2_count_148 rfl ?_
            refine V_goto eX2_count_151 ?_
            exact ih hlt _ (by rw [ha, zfold, fDn]; simp only [hb])
          · have hb : bI (decide (S (370 + i) = 3) && decide (S (790 + i) = 1) && decide (S (970 + i) = 0)) = 1 := by rw [bI_n0.mp c125]; simp [c138, bI]
            refine V_iconst (v := 1) (by decide) eX2_count_141 ?_
            refine V_goto eX2_count_142 ?_
            refine V_iadd eX2_count_146 ?_
            refine V_istore2 rfl eX2_count_147 rfl ?_
            refine V_iincN3 rfl eX2_count_148 rfl ?_
            refine V_goto eX2_count_151 ?_
            exact ih hlt _ (by rw [ha, zfold, fDn]; simp only [hb])
    · have hw : what = 8 := zti hx (by decide)
      refine V_aload0 eX2_count_156 rfl ?_
      refine M_ga mb rfl eX2_count_157 fl_X2_8_2 ?_
      refine V_bipush (v := 7) (by decide) eX2_count_160 ?_
      refine M_sl (n := 7) mb rfl (by omega) rfl eX2_count_162 ?_
      exact V_ireturn eX2_count_163 rfl (Rv.p (by clear mb; have hs := sn_of hnp (by omega); (try clear ih); (try subst hw); simp [o_count, *]))
    · have hw : what = 9 := zti hx (by decide)
      refine V_aload0 eX2_count_164 rfl ?_
      refine M_ga mb rfl eX2_count_165 fl_X2_8_2 ?_
      refine V_bipush (v := 8) (by decide) eX2_count_168 ?_
      refine M_sl (n := 8) mb rfl (by omega) rfl eX2_count_170 ?_
      exact V_ireturn eX2_count_171 rfl (Rv.p (by clear mb; have hs := sn_of hnp (by omega); (try clear ih); (try subst hw); simp [o_count, *]))
    · have hw : what = 10 := zti hx (by decide)
      refine V_aload0 eX2_count_172 rfl ?_
      refine M_ga mb rfl eX2_count_173 fl_X2_8_2 ?_
      refine V_bipush (v := 6) (by decide) eX2_count_176 ?_
      refine M_sl (n := 6) mb rfl (by omega) rfl eX2_count_178 ?_
      exact V_ireturn eX2_count_179 rfl (Rv.p (by clear mb; have hs := sn_of hnp (by omega); (try clear ih); (try subst hw); simp [o_count, *]))
  · have hw0 : ¬ what = 0 := fun q => by rw [q] at hx; revert hx; decide
    have hw1 : ¬ what = 1 := fun q => by rw [q] at hx; revert hx; decide
    have hw2 : ¬ what = 2 := fun q => by rw [q] at hx; revert hx; decide
    have hw3 : ¬ what = 3 := fun q => by rw [q] at hx; revert hx; decide
    have hw4 : ¬ what = 4 := fun q => by rw [q] at hx; revert hx; decide
    have hw5 : ¬ what = 5 := fun q => by rw [q] at hx; revert hx; decide
    have hw6 : ¬ what = 6 := fun q => by rw [q] at hx; revert hx; decide
    have hw7 : ¬ what = 7 := fun q => by rw [q] at hx; revert hx; decide
    have hw8 : ¬ what = 8 := fun q => by rw [q] at hx; revert hx; decide
    have hw9 : ¬ what = 9 := fun q => by rw [q] at hx; revert hx; decide
    have hw10 : ¬ what = 10 := fun q => by rw [q] at hx; revert hx; decide
    refine V_iconst (v := -1) (by decide) eX2_count_180 ?_
    exact V_ireturn eX2_count_181 rfl (Rv.p (by clear mb; have hs := sn_of hnp (by omega); (try clear ih); (try subst hw); simp [o_count, *]))


theorem c_sheet {w : Wd} {h : Hp} {m : Nat} {ad : Nat → Nat} {A : Nat → Nat → Int32} {B : Nat → Nat → Int64} {F S : Nat → Int32} (mb : MB h m ad) (sh : Int32) (sort : Int32) (n : Int32)  : Con w mX2_sheet cX2_sheet 5 0 0 [.ref m, .int sh, .int sort, .int n] (ms h A B F S) (Rv (.int (o_sheet S sh sort n).1) (ms h A B F (o_sheet S sh sort n).2)) := by
  refine Con.of (by decide +kernel) rfl rfl ?_
  show V w mX2_sheet cX2_sheet 5 0 0 _ 0 [some (.ref m), some (.int sh), some (.int sort), some (.int n), none] [] _
  refine V_iload1 eX2_sheet_0 ?_
  refine C0_static eX2_sheet_1 lmX2_isSheet q2127 q2128 (c_isSheet _ _) rfl rfl rfl rfl ?_
  refine V_ifne eX2_sheet_4 (fun c4 => ?_) (fun c4 => ?_)
  · obtain ⟨c, hc, rfl⟩ := zinN (m := 3) c4 rfl (by decide)
    have hcc : (nI c).toNatClampNeg = c := nI_clamp (by omega)
    refine V_iload2 eX2_sheet_9 ?_
    refine V_iconst (v := -1) (by decide) eX2_sheet_10 ?_
    refine V_iconst (v := 2) (by decide) eX2_sheet_11 ?_
    refine C0_static eX2_sheet_12 lmX2_in q1966 q1967 (c_in _ _ _ _) rfl rfl rfl rfl ?_
    refine V_ifeq eX2_sheet_15 (fun c15 => ?_) (fun c15 => ?_)
    · refine V_bipush (v := -2) (by decide) eX2_sheet_29 ?_
      exact V_ireturn eX2_sheet_31 rfl (Rv.p (by clear mb; (try clear ih); grind [o_sheet]))
    · refine V_iload2 eX2_sheet_18 ?_
      refine V_iconst (v := -1) (by decide) eX2_sheet_19 ?_
      refine V_if_icmpeq eX2_sheet_20 (fun c20 => ?_) (fun c20 => ?_)
      · refine V_iload2 eX2_sheet_32 ?_
        refine V_iconst (v := -1) (by decide) eX2_sheet_33 ?_
        refine V_if_icmpeq eX2_sheet_34 (fun c34 => ?_) (fun c34 => ?_)
        · refine V_aload0 eX2_sheet_44 rfl ?_
          refine M_ga mb rfl eX2_sheet_45 fl_X2_8_2 ?_
          refine V_sipush (v := 200) (by decide) eX2_sheet_48 ?_
          refine V_iload1 eX2_sheet_51 ?_
          refine V_iadd eX2_sheet_52 ?_
          refine V_iload2 eX2_sheet_53 ?_
          refine M_ss (n := (200 + c)) mb (zadd rfl rfl) (by omega) eX2_sheet_54 ?_
          refine V_aload0 eX2_sheet_55 rfl ?_
          refine M_ga mb rfl eX2_sheet_56 fl_X2_8_2 ?_
          refine V_sipush (v := 204) (by decide) eX2_sheet_59 ?_
          refine V_iload1 eX2_sheet_62 ?_
          refine V_iadd eX2_sheet_63 ?_
          refine V_iload2 eX2_sheet_64 ?_
          refine V_iconst (v := -1) (by decide) eX2_sheet_65 ?_
          refine V_if_icmpne eX2_sheet_66 (fun c66 => ?_) (fun c66 => ?_)
          · refine V_iload3 eX2_sheet_73 ?_
            refine M_ss (n := (204 + c)) mb (zadd rfl rfl) (by omega) eX2_sheet_74 ?_
            refine V_iconst (v := 0) (by decide) eX2_sheet_75 ?_
            refine V_istore4 rfl eX2_sheet_76 rfl ?_
            rw [show va_up (va_up S (200 + c) sort) (204 + c) n = zblk (va_up (va_up S (200 + c) sort) (204 + c) n) (208 + 40 * c) 0 from (zblk_0 _ _).symm]
            refine zloop (P := fun i => V w mX2_sheet cX2_sheet 5 0 0 (ms h A B F (zblk (va_up (va_up S (200 + c) sort) (204 + c) n) (208 + 40 * c) i)) 78 [some (.ref m), some (.int (nI c)), some (.int sort), some (.int n), some (.int (nI i))] [] _) 40 (fun i hi ih => ?_) 0 (Nat.zero_le _)
            refine V_iload4 eX2_sheet_78 ?_
            refine V_bipush (v := 40) (by decide) eX2_sheet_80 ?_
            refine V_if_icmpge eX2_sheet_82 (fun c82 => ?_) (fun c82 => ?_)
            · have e : i = 40 := by have := nle (a := 40) c82 (by omega) (by omega); omega
              subst e
              refine V_iconst (v := 1) (by decide) eX2_sheet_108 ?_
              exact V_ireturn eX2_sheet_109 rfl (Rv.p (by clear mb; (try clear ih); grind [o_sheet]))
            · have hlt := nnle (a := 40) c82 (by omega) (by omega)
              refine V_aload0 eX2_sheet_85 rfl ?_
              refine M_ga mb rfl eX2_sheet_86 fl_X2_8_2 ?_
              refine V_sipush (v := 208) (by decide) eX2_sheet_89 ?_
              refine V_bipush (v := 40) (by decide) eX2_sheet_92 ?_
              refine V_iload1 eX2_sheet_94 ?_
              refine V_imul eX2_sheet_95 ?_
              refine V_iadd eX2_sheet_96 ?_
              refine V_iload4 eX2_sheet_97 ?_
              refine V_iadd eX2_sheet_99 ?_
              refine V_iconst (v := 0) (by decide) eX2_sheet_100 ?_
              refine M_ss (n := ((208 + (40 * c)) + i)) mb (zadd (zadd rfl (zmul rfl rfl)) rfl) (by omega) eX2_sheet_101 ?_
              refine V_iincN4 rfl eX2_sheet_102 rfl ?_
              refine V_goto eX2_sheet_105 ?_
              rw [zblk_s]
              exact ih (by omega)
          · refine V_iconst (v := 0) (by decide) eX2_sheet_69 ?_
            refine V_goto eX2_sheet_70 ?_
            refine M_ss (n := (204 + c)) mb (zadd rfl rfl) (by omega) eX2_sheet_74 ?_
            refine V_iconst (v := 0) (by decide) eX2_sheet_75 ?_
            refine V_istore4 rfl eX2_sheet_76 rfl ?_
            rw [show va_up (va_up S (200 + c) sort) (204 + c) 0 = zblk (va_up (va_up S (200 + c) sort) (204 + c) 0) (208 + 40 * c) 0 from (zblk_0 _ _).symm]
            refine zloop (P := fun i => V w mX2_sheet cX2_sheet 5 0 0 (ms h A B F (zblk (va_up (va_up S (200 + c) sort) (204 + c) 0) (208 + 40 * c) i)) 78 [some (.ref m), some (.int (nI c)), some (.int sort), some (.int n), some (.int (nI i))] [] _) 40 (fun i hi ih => ?_) 0 (Nat.zero_le _)
            refine V_iload4 eX2_sheet_78 ?_
            refine V_bipush (v := 40) (by decide) eX2_sheet_80 ?_
            refine V_if_icmpge eX2_sheet_82 (fun c82 => ?_) (fun c82 => ?_)
            · have e : i = 40 := by have := nle (a := 40) c82 (by omega) (by omega); omega
              subst e
              refine V_iconst (v := 1) (by decide) eX2_sheet_108 ?_
              exact V_ireturn eX2_sheet_109 rfl (Rv.p (by clear mb; (try clear ih); grind [o_sheet]))
            · have hlt := nnle (a := 40) c82 (by omega) (by omega)
              refine V_aload0 eX2_sheet_85 rfl ?_
              refine M_ga mb rfl eX2_sheet_86 fl_X2_8_2 ?_
              refine V_sipush (v := 208) (by decide) eX2_sheet_89 ?_
              refine V_bipush (v := 40) (by decide) eX2_sheet_92 ?_
              refine V_iload1 eX2_sheet_94 ?_
              refine V_imul eX2_sheet_95 ?_
              refine V_iadd eX2_sheet_96 ?_
              refine V_iload4 eX2_sheet_97 ?_
              refine V_iadd eX2_sheet_99 ?_
              refine V_iconst (v := 0) (by decide) eX2_sheet_100 ?_
              refine M_ss (n := ((208 + (40 * c)) + i)) mb (zadd (zadd rfl (zmul rfl rfl)) rfl) (by omega) eX2_sheet_101 ?_
              refine V_iincN4 rfl eX2_sheet_102 rfl ?_
              refine V_goto eX2_sheet_105 ?_
              rw [zblk_s]
              exact ih (by omega)
        · refine V_iload3 eX2_sheet_37 ?_
          refine V_ifge eX2_sheet_38 (fun c38 => ?_) (fun c38 => ?_)
          · refine V_aload0 eX2_sheet_44 rfl ?_
            refine M_ga mb rfl eX2_sheet_45 fl_X2_8_2 ?_
            refine V_sipush (v := 200) (by decide) eX2_sheet_48 ?_
            refine V_iload1 eX2_sheet_51 ?_
            refine V_iadd eX2_sheet_52 ?_
            refine V_iload2 eX2_sheet_53 ?_
            refine M_ss (n := (200 + c)) mb (zadd rfl rfl) (by omega) eX2_sheet_54 ?_
            refine V_aload0 eX2_sheet_55 rfl ?_
            refine M_ga mb rfl eX2_sheet_56 fl_X2_8_2 ?_
            refine V_sipush (v := 204) (by decide) eX2_sheet_59 ?_
            refine V_iload1 eX2_sheet_62 ?_
            refine V_iadd eX2_sheet_63 ?_
            refine V_iload2 eX2_sheet_64 ?_
            refine V_iconst (v := -1) (by decide) eX2_sheet_65 ?_
            refine V_if_icmpne eX2_sheet_66 (fun c66 => ?_) (fun c66 => ?_)
            · refine V_iload3 eX2_sheet_73 ?_
              refine M_ss (n := (204 + c)) mb (zadd rfl rfl) (by omega) eX2_sheet_74 ?_
              refine V_iconst (v := 0) (by decide) eX2_sheet_75 ?_
              refine V_istore4 rfl eX2_sheet_76 rfl ?_
              rw [show va_up (va_up S (200 + c) sort) (204 + c) n = zblk (va_up (va_up S (200 + c) sort) (204 + c) n) (208 + 40 * c) 0 from (zblk_0 _ _).symm]
              refine zloop (P := fun i => V w mX2_sheet cX2_sheet 5 0 0 (ms h A B F (zblk (va_up (va_up S (200 + c) sort) (204 + c) n) (208 + 40 * c) i)) 78 [some (.ref m), some (.int (nI c)), some (.int sort), some (.int n), some (.int (nI i))] [] _) 40 (fun i hi ih => ?_) 0 (Nat.zero_le _)
              refine V_iload4 eX2_sheet_78 ?_
              refine V_bipush (v := 40) (by decide) eX2_sheet_80 ?_
              refine V_if_icmpge eX2_sheet_82 (fun c82 => ?_) (fun c82 => ?_)
              · have e : i = 40 := by have := nle (a := 40) c82 (by omega) (by omega); omega
                subst e
                refine V_iconst (v := 1) (by decide) eX2_sheet_108 ?_
                exact V_ireturn eX2_sheet_109 rfl (Rv.p (by clear mb; (try clear ih); grind [o_sheet]))
              · have hlt := nnle (a := 40) c82 (by omega) (by omega)
                refine V_aload0 eX2_sheet_85 rfl ?_
                refine M_ga mb rfl eX2_sheet_86 fl_X2_8_2 ?_
                refine V_sipush (v := 208) (by decide) eX2_sheet_89 ?_
                refine V_bipush (v := 40) (by decide) eX2_sheet_92 ?_
                refine V_iload1 eX2_sheet_94 ?_
                refine V_imul eX2_sheet_95 ?_
                refine V_iadd eX2_sheet_96 ?_
                refine V_iload4 eX2_sheet_97 ?_
                refine V_iadd eX2_sheet_99 ?_
                refine V_iconst (v := 0) (by decide) eX2_sheet_100 ?_
                refine M_ss (n := ((208 + (40 * c)) + i)) mb (zadd (zadd rfl (zmul rfl rfl)) rfl) (by omega) eX2_sheet_101 ?_
                refine V_iincN4 rfl eX2_sheet_102 rfl ?_
                refine V_goto eX2_sheet_105 ?_
                rw [zblk_s]
                exact ih (by omega)
            · refine V_iconst (v := 0) (by decide) eX2_sheet_69 ?_
              refine V_goto eX2_sheet_70 ?_
              refine M_ss (n := (204 + c)) mb (zadd rfl rfl) (by omega) eX2_sheet_74 ?_
              refine V_iconst (v := 0) (by decide) eX2_sheet_75 ?_
              refine V_istore4 rfl eX2_sheet_76 rfl ?_
              rw [show va_up (va_up S (200 + c) sort) (204 + c) 0 = zblk (va_up (va_up S (200 + c) sort) (204 + c) 0) (208 + 40 * c) 0 from (zblk_0 _ _).symm]
              refine zloop (P := fun i => V w mX2_sheet cX2_sheet 5 0 0 (ms h A B F (zblk (va_up (va_up S (200 + c) sort) (204 + c) 0) (208 + 40 * c) i)) 78 [some (.ref m), some (.int (nI c)), some (.int sort), some (.int n), some (.int (nI i))] [] _) 40 (fun i hi ih => ?_) 0 (Nat.zero_le _)
              refine V_iload4 eX2_sheet_78 ?_
              refine V_bipush (v := 40) (by decide) eX2_sheet_80 ?_
              refine V_if_icmpge eX2_sheet_82 (fun c82 => ?_) (fun c82 => ?_)
              · have e : i = 40 := by have := nle (a := 40) c82 (by omega) (by omega); omega
                subst e
                refine V_iconst (v := 1) (by decide) eX2_sheet_108 ?_
                exact V_ireturn eX2_sheet_109 rfl (Rv.p (by clear mb; (try clear ih); grind [o_sheet]))
              · have hlt := nnle (a := 40) c82 (by omega) (by omega)
                refine V_aload0 eX2_sheet_85 rfl ?_
                refine M_ga mb rfl eX2_sheet_86 fl_X2_8_2 ?_
                refine V_sipush (v := 208) (by decide) eX2_sheet_89 ?_
                refine V_bipush (v := 40) (by decide) eX2_sheet_92 ?_
                refine V_iload1 eX2_sheet_94 ?_
                refine V_imul eX2_sheet_95 ?_
                refine V_iadd eX2_sheet_96 ?_
                refine V_iload4 eX2_sheet_97 ?_
                refine V_iadd eX2_sheet_99 ?_
                refine V_iconst (v := 0) (by decide) eX2_sheet_100 ?_
                refine M_ss (n := ((208 + (40 * c)) + i)) mb (zadd (zadd rfl (zmul rfl rfl)) rfl) (by omega) eX2_sheet_101 ?_
                refine V_iincN4 rfl eX2_sheet_102 rfl ?_
                refine V_goto eX2_sheet_105 ?_
                rw [zblk_s]
                exact ih (by omega)
          · refine V_bipush (v := -14) (by decide) eX2_sheet_41 ?_
            exact V_ireturn eX2_sheet_43 rfl (Rv.p (by clear mb; (try clear ih); grind [o_sheet]))
      · refine V_iload3 eX2_sheet_23 ?_
        refine V_bipush (v := 40) (by decide) eX2_sheet_24 ?_
        refine V_if_icmple eX2_sheet_26 (fun c26 => ?_) (fun c26 => ?_)
        · refine V_iload2 eX2_sheet_32 ?_
          refine V_iconst (v := -1) (by decide) eX2_sheet_33 ?_
          refine V_if_icmpeq eX2_sheet_34 (fun c34 => ?_) (fun c34 => ?_)
          · refine V_aload0 eX2_sheet_44 rfl ?_
            refine M_ga mb rfl eX2_sheet_45 fl_X2_8_2 ?_
            refine V_sipush (v := 200) (by decide) eX2_sheet_48 ?_
            refine V_iload1 eX2_sheet_51 ?_
            refine V_iadd eX2_sheet_52 ?_
            refine V_iload2 eX2_sheet_53 ?_
            refine M_ss (n := (200 + c)) mb (zadd rfl rfl) (by omega) eX2_sheet_54 ?_
            refine V_aload0 eX2_sheet_55 rfl ?_
            refine M_ga mb rfl eX2_sheet_56 fl_X2_8_2 ?_
            refine V_sipush (v := 204) (by decide) eX2_sheet_59 ?_
            refine V_iload1 eX2_sheet_62 ?_
            refine V_iadd eX2_sheet_63 ?_
            refine V_iload2 eX2_sheet_64 ?_
            refine V_iconst (v := -1) (by decide) eX2_sheet_65 ?_
            refine V_if_icmpne eX2_sheet_66 (fun c66 => ?_) (fun c66 => ?_)
            · refine V_iload3 eX2_sheet_73 ?_
              refine M_ss (n := (204 + c)) mb (zadd rfl rfl) (by omega) eX2_sheet_74 ?_
              refine V_iconst (v := 0) (by decide) eX2_sheet_75 ?_
              refine V_istore4 rfl eX2_sheet_76 rfl ?_
              rw [show va_up (va_up S (200 + c) sort) (204 + c) n = zblk (va_up (va_up S (200 + c) sort) (204 + c) n) (208 + 40 * c) 0 from (zblk_0 _ _).symm]
              refine zloop (P := fun i => V w mX2_sheet cX2_sheet 5 0 0 (ms h A B F (zblk (va_up (va_up S (200 + c) sort) (204 + c) n) (208 + 40 * c) i)) 78 [some (.ref m), some (.int (nI c)), some (.int sort), some (.int n), some (.int (nI i))] [] _) 40 (fun i hi ih => ?_) 0 (Nat.zero_le _)
              refine V_iload4 eX2_sheet_78 ?_
              refine V_bipush (v := 40) (by decide) eX2_sheet_80 ?_
              refine V_if_icmpge eX2_sheet_82 (fun c82 => ?_) (fun c82 => ?_)
              · have e : i = 40 := by have := nle (a := 40) c82 (by omega) (by omega); omega
                subst e
                refine V_iconst (v := 1) (by decide) eX2_sheet_108 ?_
                exact V_ireturn eX2_sheet_109 rfl (Rv.p (by clear mb; (try clear ih); grind [o_sheet]))
              · have hlt := nnle (a := 40) c82 (by omega) (by omega)
                refine V_aload0 eX2_sheet_85 rfl ?_
                refine M_ga mb rfl eX2_sheet_86 fl_X2_8_2 ?_
                refine V_sipush (v := 208) (by decide) eX2_sheet_89 ?_
                refine V_bipush (v := 40) (by decide) eX2_sheet_92 ?_
                refine V_iload1 eX2_sheet_94 ?_
                refine V_imul eX2_sheet_95 ?_
                refine V_iadd eX2_sheet_96 ?_
                refine V_iload4 eX2_sheet_97 ?_
                refine V_iadd eX2_sheet_99 ?_
                refine V_iconst (v := 0) (by decide) eX2_sheet_100 ?_
                refine M_ss (n := ((208 + (40 * c)) + i)) mb (zadd (zadd rfl (zmul rfl rfl)) rfl) (by omega) eX2_sheet_101 ?_
                refine V_iincN4 rfl eX2_sheet_102 rfl ?_
                refine V_goto eX2_sheet_105 ?_
                rw [zblk_s]
                exact ih (by omega)
            · refine V_iconst (v := 0) (by decide) eX2_sheet_69 ?_
              refine V_goto eX2_sheet_70 ?_
              refine M_ss (n := (204 + c)) mb (zadd rfl rfl) (by omega) eX2_sheet_74 ?_
              refine V_iconst (v := 0) (by decide) eX2_sheet_75 ?_
              refine V_istore4 rfl eX2_sheet_76 rfl ?_
              rw [show va_up (va_up S (200 + c) sort) (204 + c) 0 = zblk (va_up (va_up S (200 + c) sort) (204 + c) 0) (208 + 40 * c) 0 from (zblk_0 _ _).symm]
              refine zloop (P := fun i => V w mX2_sheet cX2_sheet 5 0 0 (ms h A B F (zblk (va_up (va_up S (200 + c) sort) (204 + c) 0) (208 + 40 * c) i)) 78 [some (.ref m), some (.int (nI c)), some (.int sort), some (.int n), some (.int (nI i))] [] _) 40 (fun i hi ih => ?_) 0 (Nat.zero_le _)
              refine V_iload4 eX2_sheet_78 ?_
              refine V_bipush (v := 40) (by decide) eX2_sheet_80 ?_
              refine V_if_icmpge eX2_sheet_82 (fun c82 => ?_) (fun c82 => ?_)
              · have e : i = 40 := by have := nle (a := 40) c82 (by omega) (by omega); omega
                subst e
                refine V_iconst (v := 1) (by decide) eX2_sheet_108 ?_
                exact V_ireturn eX2_sheet_109 rfl (Rv.p (by clear mb; (try clear ih); grind [o_sheet]))
              · have hlt := nnle (a := 40) c82 (by omega) (by omega)
                refine V_aload0 eX2_sheet_85 rfl ?_
                refine M_ga mb rfl eX2_sheet_86 fl_X2_8_2 ?_
                refine V_sipush (v := 208) (by decide) eX2_sheet_89 ?_
                refine V_bipush (v := 40) (by decide) eX2_sheet_92 ?_
                refine V_iload1 eX2_sheet_94 ?_
                refine V_imul eX2_sheet_95 ?_
                refine V_iadd eX2_sheet_96 ?_
                refine V_iload4 eX2_sheet_97 ?_
                refine V_iadd eX2_sheet_99 ?_
                refine V_iconst (v := 0) (by decide) eX2_sheet_100 ?_
                refine M_ss (n := ((208 + (40 * c)) + i)) mb (zadd (zadd rfl (zmul rfl rfl)) rfl) (by omega) eX2_sheet_101 ?_
                refine V_iincN4 rfl eX2_sheet_102 rfl ?_
                refine V_goto eX2_sheet_105 ?_
                rw [zblk_s]
                exact ih (by omega)
          · refine V_iload3 eX2_sheet_37 ?_
            refine V_ifge eX2_sheet_38 (fun c38 => ?_) (fun c38 => ?_)
            · refine V_aload0 eX2_sheet_44 rfl ?_
              refine M_ga mb rfl eX2_sheet_45 fl_X2_8_2 ?_
              refine V_sipush (v := 200) (by decide) eX2_sheet_48 ?_
              refine V_iload1 eX2_sheet_51 ?_
              refine V_iadd eX2_sheet_52 ?_
              refine V_iload2 eX2_sheet_53 ?_
              refine M_ss (n := (200 + c)) mb (zadd rfl rfl) (by omega) eX2_sheet_54 ?_
              refine V_aload0 eX2_sheet_55 rfl ?_
              refine M_ga mb rfl eX2_sheet_56 fl_X2_8_2 ?_
              refine V_sipush (v := 204) (by decide) eX2_sheet_59 ?_
              refine V_iload1 eX2_sheet_62 ?_
              refine V_iadd eX2_sheet_63 ?_
              refine V_iload2 eX2_sheet_64 ?_
              refine V_iconst (v := -1) (by decide) eX2_sheet_65 ?_
              refine V_if_icmpne eX2_sheet_66 (fun c66 => ?_) (fun c66 => ?_)
              · refine V_iload3 eX2_sheet_73 ?_
                refine M_ss (n := (204 + c)) mb (zadd rfl rfl) (by omega) eX2_sheet_74 ?_
                refine V_iconst (v := 0) (by decide) eX2_sheet_75 ?_
                refine V_istore4 rfl eX2_sheet_76 rfl ?_
                rw [show va_up (va_up S (200 + c) sort) (204 + c) n = zblk (va_up (va_up S (200 + c) sort) (204 + c) n) (208 + 40 * c) 0 from (zblk_0 _ _).symm]
                refine zloop (P := fun i => V w mX2_sheet cX2_sheet 5 0 0 (ms h A B F (zblk (va_up (va_up S (200 + c) sort) (204 + c) n) (208 + 40 * c) i)) 78 [some (.ref m), some (.int (nI c)), some (.int sort), some (.int n), some (.int (nI i))] [] _) 40 (fun i hi ih => ?_) 0 (Nat.zero_le _)
                refine V_iload4 eX2_sheet_78 ?_
                refine V_bipush (v := 40) (by decide) eX2_sheet_80 ?_
                refine V_if_icmpge eX2_sheet_82 (fun c82 => ?_) (fun c82 => ?_)
                · have e : i = 40 := by have := nle (a := 40) c82 (by omega) (by omega); omega
                  subst e
                  refine V_iconst (v := 1) (by decide) eX2_sheet_108 ?_
                  exact V_ireturn eX2_sheet_109 rfl (Rv.p (by clear mb; (try clear ih); grind [o_sheet]))
                · have hlt := nnle (a := 40) c82 (by omega) (by omega)
                  refine V_aload0 eX2_sheet_85 rfl ?_
                  refine M_ga mb rfl eX2_sheet_86 fl_X2_8_2 ?_
                  refine V_sipush (v := 208) (by decide) eX2_sheet_89 ?_
                  refine V_bipush (v := 40) (by decide) eX2_sheet_92 ?_
                  refine V_iload1 eX2_sheet_94 ?_
                  refine V_imul eX2_sheet_95 ?_
                  refine V_iadd eX2_sheet_96 ?_
                  refine V_iload4 eX2_sheet_97 ?_
                  refine V_iadd eX2_sheet_99 ?_
                  refine V_iconst (v := 0) (by decide) eX2_sheet_100 ?_
                  refine M_ss (n := ((208 + (40 * c)) + i)) mb (zadd (zadd rfl (zmul rfl rfl)) rfl) (by omega) eX2_sheet_101 ?_
                  refine V_iincN4 rfl eX2_sheet_102 rfl ?_
                  refine V_goto eX2_sheet_105 ?_
                  rw [zblk_s]
                  exact ih (by omega)
              · refine V_iconst (v := 0) (by decide) eX2_sheet_69 ?_
                refine V_goto eX2_sheet_70 ?_
                refine M_ss (n := (204 + c)) mb (zadd rfl rfl) (by omega) eX2_sheet_74 ?_
                refine V_iconst (v := 0) (by decide) eX2_sheet_75 ?_
                refine V_istore4 rfl eX2_sheet_76 rfl ?_
                rw [show va_up (va_up S (200 + c) sort) (204 + c) 0 = zblk (va_up (va_up S (200 + c) sort) (204 + c) 0) (208 + 40 * c) 0 from (zblk_0 _ _).symm]
                refine zloop (P := fun i => V w mX2_sheet cX2_sheet 5 0 0 (ms h A B F (zblk (va_up (va_up S (200 + c) sort) (204 + c) 0) (208 + 40 * c) i)) 78 [some (.ref m), some (.int (nI c)), some (.int sort), some (.int n), some (.int (nI i))] [] _) 40 (fun i hi ih => ?_) 0 (Nat.zero_le _)
                refine V_iload4 eX2_sheet_78 ?_
                refine V_bipush (v := 40) (by decide) eX2_sheet_80 ?_
                refine V_if_icmpge eX2_sheet_82 (fun c82 => ?_) (fun c82 => ?_)
                · have e : i = 40 := by have := nle (a := 40) c82 (by omega) (by omega); omega
                  subst e
                  refine V_iconst (v := 1) (by decide) eX2_sheet_108 ?_
                  exact V_ireturn eX2_sheet_109 rfl (Rv.p (by clear mb; (try clear ih); grind [o_sheet]))
                · have hlt := nnle (a := 40) c82 (by omega) (by omega)
                  refine V_aload0 eX2_sheet_85 rfl ?_
                  refine M_ga mb rfl eX2_sheet_86 fl_X2_8_2 ?_
                  refine V_sipush (v := 208) (by decide) eX2_sheet_89 ?_
                  refine V_bipush (v := 40) (by decide) eX2_sheet_92 ?_
                  refine V_iload1 eX2_sheet_94 ?_
                  refine V_imul eX2_sheet_95 ?_
                  refine V_iadd eX2_sheet_96 ?_
                  refine V_iload4 eX2_sheet_97 ?_
                  refine V_iadd eX2_sheet_99 ?_
                  refine V_iconst (v := 0) (by decide) eX2_sheet_100 ?_
                  refine M_ss (n := ((208 + (40 * c)) + i)) mb (zadd (zadd rfl (zmul rfl rfl)) rfl) (by omega) eX2_sheet_101 ?_
                  refine V_iincN4 rfl eX2_sheet_102 rfl ?_
                  refine V_goto eX2_sheet_105 ?_
                  rw [zblk_s]
                  exact ih (by omega)
            · refine V_bipush (v := -14) (by decide) eX2_sheet_41 ?_
              exact V_ireturn eX2_sheet_43 rfl (Rv.p (by clear mb; (try clear ih); grind [o_sheet]))
        · refine V_bipush (v := -2) (by decide) eX2_sheet_29 ?_
          exact V_ireturn eX2_sheet_31 rfl (Rv.p (by clear mb; (try clear ih); grind [o_sheet]))
  · refine V_iconst (v := -1) (by decide) eX2_sheet_7 ?_
    exact V_ireturn eX2_sheet_8 rfl (Rv.p (by clear mb; (try clear ih); grind [o_sheet]))

theorem c_item {w : Wd} {h : Hp} {m : Nat} {ad : Nat → Nat} {A : Nat → Nat → Int32} {B : Nat → Nat → Int64} {F S : Nat → Int32} (mb : MB h m ad) (sh : Int32) (i : Int32) (v : Int32) {sz : Nat} (hsz : ∀ c, c < 4 → ∃ z, S (204 + c) = nI z ∧ z ≤ 40) : Con w mX2_item cX2_item 5 0 0 [.ref m, .int sh, .int i, .int v] (ms h A B F S) (Rv (.int (o_item S sh i v).1) (ms h A B F (o_item S sh i v).2)) := by
  refine Con.of (by decide +kernel) rfl rfl ?_
  show V w mX2_item cX2_item 5 0 0 _ 0 [some (.ref m), some (.int sh), some (.int i), some (.int v), none] [] _
  refine V_iload1 eX2_item_0 ?_
  refine C0_static eX2_item_1 lmX2_isSheet q2127 q2128 (c_isSheet _ _) rfl rfl rfl rfl ?_
  refine V_ifne eX2_item_4 (fun c4 => ?_) (fun c4 => ?_)
  · obtain ⟨c, hc, rfl⟩ := zinN (m := 3) c4 rfl (by decide)
    have hcc : (nI c).toNatClampNeg = c := nI_clamp (by omega)
    refine V_aload0 eX2_item_9 rfl ?_
    refine M_ga mb rfl eX2_item_10 fl_X2_8_2 ?_
    refine V_sipush (v := 200) (by decide) eX2_item_13 ?_
    refine V_iload1 eX2_item_16 ?_
    refine V_iadd eX2_item_17 ?_
    refine M_sl (n := (200 + c)) mb (zadd rfl rfl) (by omega) rfl eX2_item_18 ?_
    refine V_istore4 rfl eX2_item_19 rfl ?_
    refine V_iload4 eX2_item_21 ?_
    refine V_iconst (v := -1) (by decide) eX2_item_23 ?_
    refine V_if_icmpne eX2_item_24 (fun c24 => ?_) (fun c24 => ?_)
    · refine V_iload2 eX2_item_30 ?_
      refine V_iconst (v := 0) (by decide) eX2_item_31 ?_
      refine V_aload0 eX2_item_32 rfl ?_
      refine M_ga mb rfl eX2_item_33 fl_X2_8_2 ?_
      refine V_sipush (v := 204) (by decide) eX2_item_36 ?_
      refine V_iload1 eX2_item_39 ?_
      refine V_iadd eX2_item_40 ?_
      refine M_sl (n := (204 + c)) mb (zadd rfl rfl) (by omega) rfl eX2_item_41 ?_
      refine V_iconst (v := 1) (by decide) eX2_item_42 ?_
      refine V_isub eX2_item_43 ?_
      refine C0_static eX2_item_44 lmX2_in q1966 q1967 (c_in _ _ _ _) rfl rfl rfl rfl ?_
      refine V_ifne eX2_item_47 (fun c47 => ?_) (fun c47 => ?_)
      · obtain ⟨z, hz1, hz2⟩ := hsz c (by omega)
        obtain ⟨k, hk, rfl⟩ := zinC c47 hz1 (by omega)
        have hkc : (nI k).toNatClampNeg = k := nI_clamp (by omega)
        refine V_aload0 eX2_item_53 rfl ?_
        refine M_ga mb rfl eX2_item_54 fl_X2_8_2 ?_
        refine V_sipush (v := 208) (by decide) eX2_item_57 ?_
        refine V_bipush (v := 40) (by decide) eX2_item_60 ?_
        refine V_iload1 eX2_item_62 ?_
        refine V_imul eX2_item_63 ?_
        refine V_iadd eX2_item_64 ?_
        refine V_iload2 eX2_item_65 ?_
        refine V_iadd eX2_item_66 ?_
        refine V_iload4 eX2_item_67 ?_
        refine V_ifne eX2_item_69 (fun c69 => ?_) (fun c69 => ?_)
        · refine V_iload4 eX2_item_77 ?_
          refine V_iconst (v := 1) (by decide) eX2_item_79 ?_
          refine V_if_icmpne eX2_item_80 (fun c80 => ?_) (fun c80 => ?_)
          · refine V_iload3 eX2_item_88 ?_
            refine M_ss (n := ((208 + (40 * c)) + k)) mb (zadd (zadd rfl (zmul rfl rfl)) rfl) (by omega) eX2_item_89 ?_
            refine V_iconst (v := 1) (by decide) eX2_item_90 ?_
            exact V_ireturn eX2_item_91 rfl (Rv.p (by clear mb hsz; grind [o_item]))
          · refine V_iload3 eX2_item_83 ?_
            refine V_i2s eX2_item_84 ?_
            refine V_goto eX2_item_85 ?_
            refine M_ss (n := ((208 + (40 * c)) + k)) mb (zadd (zadd rfl (zmul rfl rfl)) rfl) (by omega) eX2_item_89 ?_
            refine V_iconst (v := 1) (by decide) eX2_item_90 ?_
            exact V_ireturn eX2_item_91 rfl (Rv.p (by clear mb hsz; grind [o_item]))
        · refine V_iload3 eX2_item_72 ?_
          refine V_i2b eX2_item_73 ?_
          refine V_goto eX2_item_74 ?_
          refine M_ss (n := ((208 + (40 * c)) + k)) mb (zadd (zadd rfl (zmul rfl rfl)) rfl) (by omega) eX2_item_89 ?_
          refine V_iconst (v := 1) (by decide) eX2_item_90 ?_
          exact V_ireturn eX2_item_91 rfl (Rv.p (by clear mb hsz; grind [o_item]))
      · refine V_bipush (v := -12) (by decide) eX2_item_50 ?_
        exact V_ireturn eX2_item_52 rfl (Rv.p (by clear mb hsz; grind [o_item]))
    · refine V_bipush (v := -11) (by decide) eX2_item_27 ?_
      exact V_ireturn eX2_item_29 rfl (Rv.p (by clear mb hsz; grind [o_item]))
  · refine V_iconst (v := -1) (by decide) eX2_item_7 ?_
    exact V_ireturn eX2_item_8 rfl (Rv.p (by clear mb hsz; grind [o_item]))

theorem c_step {w : Wd} {h : Hp} {m : Nat} {ad : Nat → Nat} {A : Nat → Nat → Int32} {B : Nat → Nat → Int64} {F S : Nat → Int32} (mb : MB h m ad) {a b : Nat} (ha : a < 80) (hb : b < 80) : Con w mX2_step cX2_step 2 0 0 [.ref m, .int (nI a), .int (nI b)] (ms h A B F S) (Rv (.int (zstep S a b)) (ms h A B F S)) := by
  refine Con.of (by decide +kernel) rfl rfl ?_
  show V w mX2_step cX2_step 2 0 0 _ 0 [some (.ref m), some (.int (nI a)), some (.int (nI b))] [] _
  refine V_bipush (v := 10) (by decide) eX2_step_0 ?_
  refine V_iconst (v := 3) (by decide) eX2_step_2 ?_
  refine V_aload0 eX2_step_3 rfl ?_
  refine M_ga mb rfl eX2_step_4 fl_X2_8_2 ?_
  refine V_bipush (v := 20) (by decide) eX2_step_7 ?_
  refine V_iload1 eX2_step_9 ?_
  refine V_iadd eX2_step_10 ?_
  refine M_sl (n := (20 + a)) mb (zadd rfl rfl) (by omega) rfl eX2_step_11 ?_
  refine V_aload0 eX2_step_12 rfl ?_
  refine M_ga mb rfl eX2_step_13 fl_X2_8_2 ?_
  refine V_bipush (v := 20) (by decide) eX2_step_16 ?_
  refine V_iload2 eX2_step_18 ?_
  refine V_iadd eX2_step_19 ?_
  refine M_sl (n := (20 + b)) mb (zadd rfl rfl) (by omega) rfl eX2_step_20 ?_
  refine V_isub eX2_step_21 ?_
  refine C0_static eX2_step_22 lmX2_size q2159 q2160 (c_size _ _) rfl rfl rfl rfl ?_
  refine V_imul eX2_step_25 ?_
  refine V_iadd eX2_step_26 ?_
  refine V_aload0 eX2_step_27 rfl ?_
  refine M_ga mb rfl eX2_step_28 fl_X2_8_2 ?_
  refine V_bipush (v := 100) (by decide) eX2_step_31 ?_
  refine V_iload2 eX2_step_33 ?_
  refine V_iadd eX2_step_34 ?_
  refine M_sl (n := (100 + b)) mb (zadd rfl rfl) (by omega) rfl eX2_step_35 ?_
  refine V_iconst (v := 1) (by decide) eX2_step_36 ?_
  refine V_if_icmpne eX2_step_37 (fun c37 => ?_) (fun c37 => ?_)
  · refine V_aload0 eX2_step_45 rfl ?_
    refine M_ga mb rfl eX2_step_46 fl_X2_8_2 ?_
    refine V_bipush (v := 100) (by decide) eX2_step_49 ?_
    refine V_iload2 eX2_step_51 ?_
    refine V_iadd eX2_step_52 ?_
    refine M_sl (n := (100 + b)) mb (zadd rfl rfl) (by omega) rfl eX2_step_53 ?_
    refine V_iconst (v := 2) (by decide) eX2_step_54 ?_
    refine V_if_icmpne eX2_step_55 (fun c55 => ?_) (fun c55 => ?_)
    · refine V_iconst (v := 0) (by decide) eX2_step_62 ?_
      refine V_iadd eX2_step_63 ?_
      exact V_ireturn eX2_step_64 rfl (Rv.i (by simp [zstep, zsz, *]))
    · refine V_iconst (v := 5) (by decide) eX2_step_58 ?_
      refine V_goto eX2_step_59 ?_
      refine V_iadd eX2_step_63 ?_
      exact V_ireturn eX2_step_64 rfl (Rv.i (by simp [zstep, zsz, *]))
  · refine V_bipush (v := 20) (by decide) eX2_step_40 ?_
    refine V_goto eX2_step_42 ?_
    refine V_iadd eX2_step_63 ?_
    exact V_ireturn eX2_step_64 rfl (Rv.i (by simp [zstep, zsz, *]))

theorem c_yardsOf {w : Wd} {h : Hp} {m : Nat} {ad : Nat → Nat} {A : Nat → Nat → Int32} {B : Nat → Nat → Int64} {F S : Nat → Int32} (mb : MB h m ad) {p wl : Nat} (hp : p < 60) (hw : Iw S p wl) : Con w mX2_yardsOf cX2_yardsOf 3 0 0 [.ref m, .int (nI p)] (ms h A B F S) (Rv (.int (zyards S p)) (ms h A B F S)) := by
  refine Con.of (by decide +kernel) rfl rfl ?_
  show V w mX2_yardsOf cX2_yardsOf 3 0 0 _ 0 [some (.ref m), some (.int (nI p)), none, none] [] _
  obtain ⟨hw1, hw2, hw3⟩ := hw
  have hs := sn_of hw1 (by omega)
  refine V_iconst (v := 0) (by decide) eX2_yardsOf_0 ?_
  refine V_istore2 rfl eX2_yardsOf_1 rfl ?_
  refine V_iconst (v := 1) (by decide) eX2_yardsOf_2 ?_
  refine V_istore3 rfl eX2_yardsOf_3 rfl ?_
  refine zloop (P := fun i => ∀ acc : Int32, acc = zfold (fYd S p) i 0 → V w mX2_yardsOf cX2_yardsOf 3 0 0 (ms h A B F S) 4 [some (.ref m), some (.int (nI p)), some (.int acc), some (.int (nI (i + 1)))] [] _) (wl - 1) (fun i hi ih acc ha => ?_) 0 (Nat.zero_le _) 0 rfl
  refine V_iload3 eX2_yardsOf_4 ?_
  refine V_aload0 eX2_yardsOf_5 rfl ?_
  refine M_ga mb rfl eX2_yardsOf_6 fl_X2_8_2 ?_
  refine V_sipush (v := 850) (by decide) eX2_yardsOf_9 ?_
  refine V_iload1 eX2_yardsOf_12 ?_
  refine V_iadd eX2_yardsOf_13 ?_
  refine M_sl (n := (850 + p)) mb (zadd rfl rfl) (by omega) hw1 eX2_yardsOf_14 ?_
  refine V_if_icmpge eX2_yardsOf_15 (fun c15 => ?_) (fun c15 => ?_)
  · have e : i = wl - 1 := by have := nle c15 (by omega) (by omega); omega
    refine V_iload2 eX2_yardsOf_63 ?_
    exact V_ireturn eX2_yardsOf_64 rfl (Rv.i (by rw [ha, e, zyards, hs]))
  · have hlt := nnle c15 (by omega) (by omega)
    refine V_iload2 eX2_yardsOf_18 ?_
    refine V_aload0 eX2_yardsOf_19 rfl ?_
    refine V_aload0 eX2_yardsOf_20 rfl ?_
    refine M_ga mb rfl eX2_yardsOf_21 fl_X2_8_2 ?_
    refine V_sipush (v := 4700) (by decide) eX2_yardsOf_24 ?_
    refine V_bipush (v := 41) (by decide) eX2_yardsOf_27 ?_
    refine V_iload1 eX2_yardsOf_29 ?_
    refine V_imul eX2_yardsOf_30 ?_
    refine V_iadd eX2_yardsOf_31 ?_
    refine V_iload3 eX2_yardsOf_32 ?_
    refine V_iadd eX2_yardsOf_33 ?_
    refine V_iconst (v := 1) (by decide) eX2_yardsOf_34 ?_
    refine V_isub eX2_yardsOf_35 ?_
    refine M_sl (n := (4700 + 41 * p + i)) mb (zsub1 (n := 4700 + 41 * p + i) ((show _ = nI (4700 + 41 * p + (i + 1)) from zadd (zadd rfl (zmul rfl rfl)) rfl).trans (congrArg nI (by omega)))) (by omega) (hw3 i (by omega)).1 eX2_yardsOf_36 ?_
    refine V_aload0 eX2_yardsOf_37 rfl ?_
    refine M_ga mb rfl eX2_yardsOf_38 fl_X2_8_2 ?_
    refine V_sipush (v := 4700) (by decide) eX2_yardsOf_41 ?_
    refine V_bipush (v := 41) (by decide) eX2_yardsOf_44 ?_
    refine V_iload1 eX2_yardsOf_46 ?_
    refine V_imul eX2_yardsOf_47 ?_
    refine V_iadd eX2_yardsOf_48 ?_
    refine V_iload3 eX2_yardsOf_49 ?_
    refine V_iadd eX2_yardsOf_50 ?_
    refine M_sl (n := ((4700 + (41 * p)) + (i + 1))) mb (zadd (zadd rfl (zmul rfl rfl)) rfl) (by omega) (hw3 (i + 1) (by omega)).1 eX2_yardsOf_51 ?_
    refine M_call mb eX2_yardsOf_52 lmX2_step q2155 q2157 rfl qs73 (c_step mb (hw3 i (by omega)).2 (hw3 (i + 1) (by omega)).2) rfl rfl rfl rfl ?_
    refine V_iadd eX2_yardsOf_55 ?_
    refine V_istore2 rfl eX2_yardsOf_56 rfl ?_
    refine V_iincN3 rfl eX2_yardsOf_57 rfl ?_
    refine V_goto eX2_yardsOf_60 ?_
    exact ih (by omega) _ (by rw [ha, zfold, fYd])

theorem c_way {w : Wd} {h : Hp} {m : Nat} {ad : Nat → Nat} {A : Nat → Nat → Int32} {B : Nat → Nat → Int64} {F S : Nat → Int32} (mb : MB h m ad) (plan : Int32) (what : Int32) {np : Nat} (hnp : S 2 = nI np) (hnp60 : np ≤ 60) (iw : ∀ p, p < np → S (370 + p) = 2 → Iw S p (sn S (850 + p))) : Con w mX2_way cX2_way 5 0 0 [.ref m, .int plan, .int what] (ms h A B F S) (Rv (.int (o_way S plan what).1) (ms h A B F (o_way S plan what).2)) := by
  refine Con.of (by decide +kernel) rfl rfl ?_
  show V w mX2_way cX2_way 5 0 0 _ 0 [some (.ref m), some (.int plan), some (.int what)] [] _
  refine V_aload0 eX2_way_0 rfl ?_
  refine V_iload1 eX2_way_1 ?_
  refine V_iconst (v := 2) (by decide) eX2_way_2 ?_
  refine M_call mb eX2_way_3 lmX2_isOf q2119 q2121 rfl qs67 (c_isOf mb _ _ hnp hnp60) rfl rfl rfl rfl ?_
  refine V_ifne eX2_way_6 (fun c6 => ?_) (fun c6 => ?_)
  · have hz := bI_n0.mp c6
    obtain ⟨p, hp, rfl, hk⟩ := zof_get hz hnp hnp60
    have hcl : (nI p).toNatClampNeg = p := nI_clamp (by omega)
    refine V_iload2 eX2_way_11 ?_
    refine V_tableswitch eX2_way_12 (fun i t ht hx => ?_) (fun hx => ?_)
    · have hi : i < 3 := (List.getElem?_eq_some_iff.mp ht).1
      rcases (show i = 0 ∨ i = 1 ∨ i = 2 by omega) with rfl | rfl | rfl
      all_goals cases ht
      · have hwt : what = 0 := zti hx (by decide)
        refine V_aload0 eX2_way_40 rfl ?_
        refine M_ga mb rfl eX2_way_41 fl_X2_8_2 ?_
        refine V_sipush (v := 850) (by decide) eX2_way_44 ?_
        refine V_iload1 eX2_way_47 ?_
        refine V_iadd eX2_way_48 ?_
        refine M_sl (n := (850 + p)) mb (zadd rfl rfl) (by omega) rfl eX2_way_49 ?_
        exact V_ireturn eX2_way_50 rfl (Rv.p (by clear mb iw; (try subst hwt); grind [o_way]))
      · have hwt : what = 1 := zti hx (by decide)
        refine V_aload0 eX2_way_51 rfl ?_
        refine M_ga mb rfl eX2_way_52 fl_X2_8_2 ?_
        refine V_sipush (v := 910) (by decide) eX2_way_55 ?_
        refine V_iload1 eX2_way_58 ?_
        refine V_iadd eX2_way_59 ?_
        refine M_sl (n := (910 + p)) mb (zadd rfl rfl) (by omega) rfl eX2_way_60 ?_
        exact V_ireturn eX2_way_61 rfl (Rv.p (by clear mb iw; (try subst hwt); grind [o_way]))
      · have hwt : what = 2 := zti hx (by decide)
        refine V_aload0 eX2_way_62 rfl ?_
        refine V_iload1 eX2_way_63 ?_
        refine M_call mb eX2_way_64 lmX2_yardsOf q2151 q2153 rfl qs72 (c_yardsOf mb (p := p) (by omega) (iw p hp hk)) rfl rfl rfl rfl ?_
        exact V_ireturn eX2_way_67 rfl (Rv.p (by clear mb iw; (try subst hwt); grind [o_way]))
    · have hwt0 : ¬ what = 0 := fun q => by rw [q] at hx; revert hx; decide
      have hwt1 : ¬ what = 1 := fun q => by rw [q] at hx; revert hx; decide
      have hwt2 : ¬ what = 2 := fun q => by rw [q] at hx; revert hx; decide
      refine V_iload2 eX2_way_68 ?_
      refine V_bipush (v := 10) (by decide) eX2_way_69 ?_
      refine V_isub eX2_way_71 ?_
      refine V_iconst (v := 0) (by decide) eX2_way_72 ?_
      refine V_aload0 eX2_way_73 rfl ?_
      refine M_ga mb rfl eX2_way_74 fl_X2_8_2 ?_
      refine V_sipush (v := 850) (by decide) eX2_way_77 ?_
      refine V_iload1 eX2_way_80 ?_
      refine V_iadd eX2_way_81 ?_
      refine M_sl (n := (850 + p)) mb (zadd rfl rfl) (by omega) rfl eX2_way_82 ?_
      refine V_iconst (v := 1) (by decide) eX2_way_83 ?_
      refine V_isub eX2_way_84 ?_
      refine C0_static eX2_way_85 lmX2_in q1966 q1967 (c_in _ _ _ _) rfl rfl rfl rfl ?_
      refine V_ifeq eX2_way_88 (fun c88 => ?_) (fun c88 => ?_)
      · refine V_iconst (v := -1) (by decide) eX2_way_112 ?_
        exact V_ireturn eX2_way_113 rfl (Rv.p (by clear mb iw; (try subst hwt); grind [o_way]))
      · obtain ⟨k, hk1, hk2⟩ := zinC c88 (iw p hp hk).1 (by have := (iw p hp hk).2.1; omega)
        have hk40 := (iw p hp hk).2.1
        obtain rfl : what = nI (k + 10) := by
          have h1 : what = what - 10 + 10 := by grind
          rw [h1, hk2]; exact zadd rfl rfl
        have hkc : (nI k).toNatClampNeg = k := nI_clamp (by omega)
        refine V_aload0 eX2_way_91 rfl ?_
        refine M_ga mb rfl eX2_way_92 fl_X2_8_2 ?_
        refine V_sipush (v := 4700) (by decide) eX2_way_95 ?_
        refine V_bipush (v := 41) (by decide) eX2_way_98 ?_
        refine V_iload1 eX2_way_100 ?_
        refine V_imul eX2_way_101 ?_
        refine V_iadd eX2_way_102 ?_
        refine V_iload2 eX2_way_103 ?_
        refine V_iadd eX2_way_104 ?_
        refine V_bipush (v := 10) (by decide) eX2_way_105 ?_
        refine V_isub eX2_way_107 ?_
        refine M_sl (n := (4700 + 41 * p + k)) mb (zsubm (n := 4700 + 41 * p + k) (m := 10) ((show _ = nI (4700 + 41 * p + (k + 10)) from zadd (zadd rfl (zmul rfl rfl)) rfl).trans (congrArg nI (by omega))) rfl) (by omega) rfl eX2_way_108 ?_
        refine V_goto eX2_way_109 ?_
        exact V_ireturn eX2_way_113 rfl (Rv.p (by clear mb iw; (try subst hwt); grind [o_way]))
  · have hz := bI_0.mp c6
    refine V_iconst (v := -1) (by decide) eX2_way_9 ?_
    exact V_ireturn eX2_way_10 rfl (Rv.p (by clear mb iw; (try subst hwt); grind [o_way]))

theorem c_level {w : Wd} {h : Hp} {m : Nat} {ad : Nat → Nat} {A : Nat → Nat → Int32} {B : Nat → Nat → Int64} {F S : Nat → Int32} (mb : MB h m ad) (plan : Int32) (i : Int32) {np : Nat} (hnp : S 2 = nI np) (hnp60 : np ≤ 60) (iw : ∀ p, p < np → S (370 + p) = 2 → Iw S p (sn S (850 + p))) : Con w mX2_level cX2_level 5 0 0 [.ref m, .int plan, .int i] (ms h A B F S) (Rv (.int (o_level S plan i).1) (ms h A B F (o_level S plan i).2)) := by
  refine Con.of (by decide +kernel) rfl rfl ?_
  show V w mX2_level cX2_level 5 0 0 _ 0 [some (.ref m), some (.int plan), some (.int i)] [] _
  refine V_aload0 eX2_level_0 rfl ?_
  refine V_iload1 eX2_level_1 ?_
  refine V_iconst (v := 2) (by decide) eX2_level_2 ?_
  refine M_call mb eX2_level_3 lmX2_isOf q2119 q2121 rfl qs67 (c_isOf mb _ _ hnp hnp60) rfl rfl rfl rfl ?_
  refine V_ifeq eX2_level_6 (fun c6 => ?_) (fun c6 => ?_)
  · have hz := bI_0.mp c6
    refine V_iconst (v := -1) (by decide) eX2_level_47 ?_
    exact V_ireturn eX2_level_48 rfl (Rv.p (by clear mb iw; grind [o_level]))
  · have hz := bI_n0.mp c6
    obtain ⟨p, hp, rfl, hk⟩ := zof_get hz hnp hnp60
    have hcl : (nI p).toNatClampNeg = p := nI_clamp (by omega)
    refine V_iload2 eX2_level_9 ?_
    refine V_iconst (v := 0) (by decide) eX2_level_10 ?_
    refine V_aload0 eX2_level_11 rfl ?_
    refine M_ga mb rfl eX2_level_12 fl_X2_8_2 ?_
    refine V_sipush (v := 850) (by decide) eX2_level_15 ?_
    refine V_iload1 eX2_level_18 ?_
    refine V_iadd eX2_level_19 ?_
    refine M_sl (n := (850 + p)) mb (zadd rfl rfl) (by omega) rfl eX2_level_20 ?_
    refine V_iconst (v := 1) (by decide) eX2_level_21 ?_
    refine V_isub eX2_level_22 ?_
    refine C0_static eX2_level_23 lmX2_in q1966 q1967 (c_in _ _ _ _) rfl rfl rfl rfl ?_
    refine V_ifeq eX2_level_26 (fun c26 => ?_) (fun c26 => ?_)
    · refine V_iconst (v := -1) (by decide) eX2_level_47 ?_
      exact V_ireturn eX2_level_48 rfl (Rv.p (by clear mb iw; grind [o_level]))
    · have hk40 := (iw p hp hk).2.1
      obtain ⟨k, hk1, rfl⟩ := zinC c26 (iw p hp hk).1 (by omega)
      have hkc : (nI k).toNatClampNeg = k := nI_clamp (by omega)
      refine V_aload0 eX2_level_29 rfl ?_
      refine M_ga mb rfl eX2_level_30 fl_X2_8_2 ?_
      refine V_sipush (v := 7160) (by decide) eX2_level_33 ?_
      refine V_bipush (v := 41) (by decide) eX2_level_36 ?_
      refine V_iload1 eX2_level_38 ?_
      refine V_imul eX2_level_39 ?_
      refine V_iadd eX2_level_40 ?_
      refine V_iload2 eX2_level_41 ?_
      refine V_iadd eX2_level_42 ?_
      refine M_sl (n := ((7160 + (41 * p)) + k)) mb (zadd (zadd rfl (zmul rfl rfl)) rfl) (by omega) rfl eX2_level_43 ?_
      refine V_goto eX2_level_44 ?_
      exact V_ireturn eX2_level_48 rfl (Rv.p (by clear mb iw; grind [o_level]))

theorem c_placeIn {w : Wd} {h : Hp} {m : Nat} {ad : Nat → Nat} {A : Nat → Nat → Int32} {B : Nat → Nat → Int64} {F S : Nat → Int32} (mb : MB h m ad) {p wl : Nat} {c : Int32} (hp : p < 60) (hw1 : S (850 + p) = nI wl) (hw2 : wl ≤ 40) : Con w mX2_placeIn cX2_placeIn 1 0 0 [.ref m, .int (nI p), .int c] (ms h A B F S) (Rv (.int (zplace S p c)) (ms h A B F S)) := by
  refine Con.of (by decide +kernel) rfl rfl ?_
  show V w mX2_placeIn cX2_placeIn 1 0 0 _ 0 [some (.ref m), some (.int (nI p)), some (.int c), none] [] _
  have hs := sn_of hw1 (by omega)
  refine V_iconst (v := 0) (by decide) eX2_placeIn_0 ?_
  refine V_istore3 rfl eX2_placeIn_1 rfl ?_
  refine zloop (P := fun i => zplace S p c = zpl S p c (wl - i) i → V w mX2_placeIn cX2_placeIn 1 0 0 (ms h A B F S) 2 [some (.ref m), some (.int (nI p)), some (.int c), some (.int (nI i))] [] _) wl (fun i hi ih hpl => ?_) 0 (Nat.zero_le _) (by rw [zplace, hs]; rfl)
  refine V_iload3 eX2_placeIn_2 ?_
  refine V_aload0 eX2_placeIn_3 rfl ?_
  refine M_ga mb rfl eX2_placeIn_4 fl_X2_8_2 ?_
  refine V_sipush (v := 850) (by decide) eX2_placeIn_7 ?_
  refine V_iload1 eX2_placeIn_10 ?_
  refine V_iadd eX2_placeIn_11 ?_
  refine M_sl (n := (850 + p)) mb (zadd rfl rfl) (by omega) hw1 eX2_placeIn_12 ?_
  refine V_if_icmpge eX2_placeIn_13 (fun c13 => ?_) (fun c13 => ?_)
  · have e : i = wl := by have := nle c13 (by omega) (by omega); omega
    refine V_iconst (v := -1) (by decide) eX2_placeIn_43 ?_
    exact V_ireturn eX2_placeIn_44 rfl (Rv.i (by rw [hpl, e, Nat.sub_self, zpl]))
  · have hlt := nnle c13 (by omega) (by omega)
    refine V_aload0 eX2_placeIn_16 rfl ?_
    refine M_ga mb rfl eX2_placeIn_17 fl_X2_8_2 ?_
    refine V_sipush (v := 4700) (by decide) eX2_placeIn_20 ?_
    refine V_bipush (v := 41) (by decide) eX2_placeIn_23 ?_
    refine V_iload1 eX2_placeIn_25 ?_
    refine V_imul eX2_placeIn_26 ?_
    refine V_iadd eX2_placeIn_27 ?_
    refine V_iload3 eX2_placeIn_28 ?_
    refine V_iadd eX2_placeIn_29 ?_
    refine M_sl (n := ((4700 + (41 * p)) + i)) mb (zadd (zadd rfl (zmul rfl rfl)) rfl) (by omega) rfl eX2_placeIn_30 ?_
    refine V_iload2 eX2_placeIn_31 ?_
    refine V_if_icmpne eX2_placeIn_32 (fun c32 => ?_) (fun c32 => ?_)
    · refine V_iincN3 rfl eX2_placeIn_37 rfl ?_
      refine V_goto eX2_placeIn_40 ?_
      exact ih hlt (by rw [hpl, show wl - i = (wl - (i + 1)) + 1 by omega, zpl, if_neg c32])
    · refine V_iload3 eX2_placeIn_35 ?_
      exact V_ireturn eX2_placeIn_36 rfl (Rv.i (by rw [hpl, show wl - i = (wl - (i + 1)) + 1 by omega, zpl, if_pos c32]))

theorem c_isInWay {w : Wd} {h : Hp} {m : Nat} {ad : Nat → Nat} {A : Nat → Nat → Int32} {B : Nat → Nat → Int64} {F S : Nat → Int32} (mb : MB h m ad) {p wl : Nat} {c : Int32} (hp : p < 60) (hw1 : S (850 + p) = nI wl) (hw2 : wl ≤ 40) : Con w mX2_isInWay cX2_isInWay 2 0 0 [.ref m, .int (nI p), .int c] (ms h A B F S) (Rv (.int (bI (decide (¬ zplace S p c = -1)))) (ms h A B F S)) := by
  refine Con.of (by decide +kernel) rfl rfl ?_
  show V w mX2_isInWay cX2_isInWay 2 0 0 _ 0 [some (.ref m), some (.int (nI p)), some (.int c)] [] _
  refine V_aload0 eX2_isInWay_0 rfl ?_
  refine V_iload1 eX2_isInWay_1 ?_
  refine V_iload2 eX2_isInWay_2 ?_
  refine M_call mb eX2_isInWay_3 lmX2_placeIn q2137 q2139 rfl qs70 (c_placeIn mb hp hw1 hw2) rfl rfl rfl rfl ?_
  refine V_iconst (v := -1) (by decide) eX2_isInWay_6 ?_
  refine V_if_icmpeq eX2_isInWay_7 (fun c7 => ?_) (fun c7 => ?_)
  · refine V_iconst (v := 0) (by decide) eX2_isInWay_14 ?_
    exact V_zreturn eX2_isInWay_15 rfl (by decide) (Rv.i (by simp [bI, *]))
  · refine V_iconst (v := 1) (by decide) eX2_isInWay_10 ?_
    refine V_goto eX2_isInWay_11 ?_
    exact V_zreturn eX2_isInWay_15 rfl (by decide) (Rv.i (by simp [bI, *]))

