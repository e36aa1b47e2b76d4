def o_land (S : Nat → Int32) (cell what n : Int32) : Int32 × (Nat → Int32) :=
  if zin cell 0 79 = 0 ∨ zin what 0 1 = 0 then (-1, S) else
  if zin n 0 (if what = 0 then 99 else 2) = 0 then (-2, S) else
  (S ((if what = 0 then 20 else 100) + cell.toNatClampNeg), va_up S ((if what = 0 then 20 else 100) + cell.toNatClampNeg) n)
theorem c_land {w : Wd} {h : Hp} {m : Nat} {ad : Nat → Nat} {A : Nat → Nat → Int32} {B : Nat → Nat → Int64} {F S : Nat → Int32} (mb : MB h m ad) (cell : Int32) (what : Int32) (n : Int32)  : Con w mX2_land cX2_land 5 0 0 [.ref m, .int cell, .int what, .int n] (ms h A B F S) (Rv (.int (o_land S cell what n).1) (ms h A B F (o_land S cell what n).2)) := by
  refine Con.of (by decide +kernel) rfl rfl ?_
  show V w mX2_land cX2_land 5 0 0 _ 0 [some (.ref m), some (.int cell), some (.int what), some (.int n), none, none] [] _
  refine V_iload1 eX2_land_0 ?_
  refine C0_static eX2_land_1 lmX2_isCell q1963 q1964 (c_isCell _ _) rfl rfl rfl rfl ?_
  refine V_ifeq eX2_land_4 (fun c4 => ?_) (fun c4 => ?_)
  · refine V_iconst (v := -1) (by decide) eX2_land_16 ?_
    exact V_ireturn eX2_land_17 rfl (Rv.p (by clear mb; (try clear ih); first | grind [o_land] | grind [o_land, nI_pred, nI_1]))
  · obtain ⟨c, hc, rfl⟩ := zinN (m := 79) c4 rfl (by decide)
    have hcl : (nI c).toNatClampNeg = c := nI_clamp (by omega)
    refine V_iload2 eX2_land_7 ?_
    refine V_iconst (v := 0) (by decide) eX2_land_8 ?_
    refine V_iconst (v := 1) (by decide) eX2_land_9 ?_
    refine C0_static eX2_land_10 lmX2_in q1966 q1967 (c_in _ _ _ _) rfl rfl rfl rfl ?_
    refine V_ifne eX2_land_13 (fun c13 => ?_) (fun c13 => ?_)
    · refine V_iload3 eX2_land_18 ?_
      refine V_iconst (v := 0) (by decide) eX2_land_19 ?_
      refine V_iload2 eX2_land_20 ?_
      refine V_ifne eX2_land_21 (fun c21 => ?_) (fun c21 => ?_)
      · refine V_iconst (v := 2) (by decide) eX2_land_29 ?_
        refine C0_static eX2_land_30 lmX2_in q1966 q1967 (c_in _ _ _ _) rfl rfl rfl rfl ?_
        refine V_ifne eX2_land_33 (fun c33 => ?_) (fun c33 => ?_)
        · refine V_iload2 eX2_land_39 ?_
          refine V_ifne eX2_land_40 (fun c40 => ?_) (fun c40 => ?_)
          · refine V_bipush (v := 100) (by decide) eX2_land_50 ?_
            refine V_iload1 eX2_land_52 ?_
            refine V_iadd eX2_land_53 ?_
            refine V_istore4 rfl eX2_land_54 rfl ?_
            refine V_aload0 eX2_land_56 rfl ?_
            refine M_ga mb rfl eX2_land_57 fl_X2_8_2 ?_
            refine V_iload4 eX2_land_60 ?_
            refine M_sl (n := (100 + c)) mb (zadd rfl rfl) (by omega) rfl eX2_land_62 ?_
            refine V_istore5 rfl eX2_land_63 rfl ?_
            refine V_aload0 eX2_land_65 rfl ?_
            refine M_ga mb rfl eX2_land_66 fl_X2_8_2 ?_
            refine V_iload4 eX2_land_69 ?_
            refine V_iload3 eX2_land_71 ?_
            refine M_ss (n := (100 + c)) mb (zadd rfl rfl) (by omega) eX2_land_72 ?_
            refine V_iload5 eX2_land_73 ?_
            exact V_ireturn eX2_land_75 rfl (Rv.p (by clear mb; (try clear ih); first | grind [o_land] | grind [o_land, nI_pred, nI_1]))
          · refine V_bipush (v := 20) (by decide) eX2_land_43 ?_
            refine V_iload1 eX2_land_45 ?_
            refine V_iadd eX2_land_46 ?_
            refine V_goto eX2_land_47 ?_
            refine V_istore4 rfl eX2_land_54 rfl ?_
            refine V_aload0 eX2_land_56 rfl ?_
            refine M_ga mb rfl eX2_land_57 fl_X2_8_2 ?_
            refine V_iload4 eX2_land_60 ?_
            refine M_sl (n := (20 + c)) mb (zadd rfl rfl) (by omega) rfl eX2_land_62 ?_
            refine V_istore5 rfl eX2_land_63 rfl ?_
            refine V_aload0 eX2_land_65 rfl ?_
            refine M_ga mb rfl eX2_land_66 fl_X2_8_2 ?_
            refine V_iload4 eX2_land_69 ?_
            refine V_iload3 eX2_land_71 ?_
            refine M_ss (n := (20 + c)) mb (zadd rfl rfl) (by omega) eX2_land_72 ?_
            refine V_iload5 eX2_land_73 ?_
            exact V_ireturn eX2_land_75 rfl (Rv.p (by clear mb; (try clear ih); first | grind [o_land] | grind [o_land, nI_pred, nI_1]))
        · refine V_bipush (v := -2) (by decide) eX2_land_36 ?_
          exact V_ireturn eX2_land_38 rfl (Rv.p (by clear mb; (try clear ih); first | grind [o_land] | grind [o_land, nI_pred, nI_1]))
      · refine V_bipush (v := 99) (by decide) eX2_land_24 ?_
        refine V_goto eX2_land_26 ?_
        refine C0_static eX2_land_30 lmX2_in q1966 q1967 (c_in _ _ _ _) rfl rfl rfl rfl ?_
        refine V_ifne eX2_land_33 (fun c33 => ?_) (fun c33 => ?_)
        · refine V_iload2 eX2_land_39 ?_
          refine V_ifne eX2_land_40 (fun c40 => ?_) (fun c40 => ?_)
          · refine V_bipush (v := 100) (by decide) eX2_land_50 ?_
            refine V_iload1 eX2_land_52 ?_
            refine V_iadd eX2_land_53 ?_
            refine V_istore4 rfl eX2_land_54 rfl ?_
            refine V_aload0 eX2_land_56 rfl ?_
            refine M_ga mb rfl eX2_land_57 fl_X2_8_2 ?_
            refine V_iload4 eX2_land_60 ?_
            refine M_sl (n := (100 + c)) mb (zadd rfl rfl) (by omega) rfl eX2_land_62 ?_
            refine V_istore5 rfl eX2_land_63 rfl ?_
            refine V_aload0 eX2_land_65 rfl ?_
            refine M_ga mb rfl eX2_land_66 fl_X2_8_2 ?_
            refine V_iload4 eX2_land_69 ?_
            refine V_iload3 eX2_land_71 ?_
            refine M_ss (n := (100 + c)) mb (zadd rfl rfl) (by omega) eX2_land_72 ?_
            refine V_iload5 eX2_land_73 ?_
            exact V_ireturn eX2_land_75 rfl (Rv.p (by clear mb; (try clear ih); first | grind [o_land] | grind [o_land, nI_pred, nI_1]))
          · refine V_bipush (v := 20) (by decide) eX2_land_43 ?_
            refine V_iload1 eX2_land_45 ?_
            refine V_iadd eX2_land_46 ?_
            refine V_goto eX2_land_47 ?_
            refine V_istore4 rfl eX2_land_54 rfl ?_
            refine V_aload0 eX2_land_56 rfl ?_
            refine M_ga mb rfl eX2_land_57 fl_X2_8_2 ?_
            refine V_iload4 eX2_land_60 ?_
            refine M_sl (n := (20 + c)) mb (zadd rfl rfl) (by omega) rfl eX2_land_62 ?_
            refine V_istore5 rfl eX2_land_63 rfl ?_
            refine V_aload0 eX2_land_65 rfl ?_
            refine M_ga mb rfl eX2_land_66 fl_X2_8_2 ?_
            refine V_iload4 eX2_land_69 ?_
            refine V_iload3 eX2_land_71 ?_
            refine M_ss (n := (20 + c)) mb (zadd rfl rfl) (by omega) eX2_land_72 ?_
            refine V_iload5 eX2_land_73 ?_
            exact V_ireturn eX2_land_75 rfl (Rv.p (by clear mb; (try clear ih); first | grind [o_land] | grind [o_land, nI_pred, nI_1]))
        · refine V_bipush (v := -2) (by decide) eX2_land_36 ?_
          exact V_ireturn eX2_land_38 rfl (Rv.p (by clear mb; (try clear ih); first | grind [o_land] | grind [o_land, nI_pred, nI_1]))
    · refine V_iconst (v := -1) (by decide) eX2_land_16 ?_
      exact V_ireturn eX2_land_17 rfl (Rv.p (by clear mb; (try clear ih); first | grind [o_land] | grind [o_land, nI_pred, nI_1]))

noncomputable def o_town (S : Nat → Int32) (cell trade : Int32) : Int32 × (Nat → Int32) :=
  if zin cell 0 79 = 0 then (-1, S) else if zin trade 0 99 = 0 then (-2, S) else
  if ∃ t, t < sn S 1 ∧ S (180 + t) = cell then (-3, S) else if S 1 = 6 then (-4, S) else
  (S 1, va_up (va_up (va_up S (180 + sn S 1) cell) (186 + sn S 1) trade) 1 (S 1 + 1))
theorem c_town {w : Wd} {h : Hp} {m : Nat} {ad : Nat → Nat} {A : Nat → Nat → Int32} {B : Nat → Nat → Int64} {F S : Nat → Int32} (mb : MB h m ad) (cell : Int32) (trade : Int32) {nt : Nat} (hnt : S 1 = nI nt) (hnt6 : nt ≤ 6) : Con w mX2_town cX2_town 5 0 0 [.ref m, .int cell, .int trade] (ms h A B F S) (Rv (.int (o_town S cell trade).1) (ms h A B F (o_town S cell trade).2)) := by
  refine Con.of (by decide +kernel) rfl rfl ?_
  show V w mX2_town cX2_town 5 0 0 _ 0 [some (.ref m), some (.int cell), some (.int trade), none] [] _
  refine V_iload1 eX2_town_0 ?_
  refine C0_static eX2_town_1 lmX2_isCell q1963 q1964 (c_isCell _ _) rfl rfl rfl rfl ?_
  refine V_ifne eX2_town_4 (fun c4 => ?_) (fun c4 => ?_)
  · obtain ⟨c, hc, rfl⟩ := zinN (m := 79) c4 rfl (by decide)
    have hcl : (nI c).toNatClampNeg = c := nI_clamp (by omega)
    refine V_iload2 eX2_town_9 ?_
    refine V_iconst (v := 0) (by decide) eX2_town_10 ?_
    refine V_bipush (v := 99) (by decide) eX2_town_11 ?_
    refine C0_static eX2_town_13 lmX2_in q1966 q1967 (c_in _ _ _ _) rfl rfl rfl rfl ?_
    refine V_ifne eX2_town_16 (fun c16 => ?_) (fun c16 => ?_)
    · refine V_iconst (v := 0) (by decide) eX2_town_22 ?_
      refine V_istore3 rfl eX2_town_23 rfl ?_
      refine zloop (P := fun i => (∀ t, t < i → ¬ S (180 + t) = nI c) → V w mX2_town cX2_town 5 0 0 (ms h A B F S) 24 [some (.ref m), some (.int (nI c)), some (.int trade), some (.int (nI i))] [] _) nt (fun i hi ih hinv => ?_) 0 (Nat.zero_le _) (fun t ht => absurd ht (by omega))
      refine V_iload3 eX2_town_24 ?_
      refine V_aload0 eX2_town_25 rfl ?_
      refine M_ga mb rfl eX2_town_26 fl_X2_8_2 ?_
      refine V_iconst (v := 1) (by decide) eX2_town_29 ?_
      refine M_sl (n := 1) mb rfl (by omega) hnt eX2_town_30 ?_
      refine V_if_icmpge eX2_town_31 (fun c31 => ?_) (fun c31 => ?_)
      · have hi2 := nle c31 (by omega) (by omega)
        have hs := sn_of hnt (by omega)
        have hno : ¬ ∃ t, t < sn S 1 ∧ S (180 + t) = nI c := by
          rintro ⟨t, h1, h2⟩
          exact hinv t (by omega) h2
        refine V_aload0 eX2_town_57 rfl ?_
        refine M_ga mb rfl eX2_town_58 fl_X2_8_2 ?_
        refine V_iconst (v := 1) (by decide) eX2_town_61 ?_
        refine M_sl (n := 1) mb rfl (by omega) hnt eX2_town_62 ?_
        refine V_bipush (v := 6) (by decide) eX2_town_63 ?_
        refine V_if_icmpne eX2_town_65 (fun c65 => ?_) (fun c65 => ?_)
        · refine V_aload0 eX2_town_71 rfl ?_
          refine M_ga mb rfl eX2_town_72 fl_X2_8_2 ?_
          refine V_sipush (v := 180) (by decide) eX2_town_75 ?_
          refine V_aload0 eX2_town_78 rfl ?_
          refine M_ga mb rfl eX2_town_79 fl_X2_8_2 ?_
          refine V_iconst (v := 1) (by decide) eX2_town_82 ?_
          refine M_sl (n := 1) mb rfl (by omega) hnt eX2_town_83 ?_
          refine V_iadd eX2_town_84 ?_
          refine V_iload1 eX2_town_85 ?_
          refine M_ss (n := (180 + nt)) mb (zadd rfl rfl) (by omega) eX2_town_86 ?_
          refine V_aload0 eX2_town_87 rfl ?_
          refine M_ga mb rfl eX2_town_88 fl_X2_8_2 ?_
          refine V_sipush (v := 186) (by decide) eX2_town_91 ?_
          refine V_aload0 eX2_town_94 rfl ?_
          refine M_ga mb rfl eX2_town_95 fl_X2_8_2 ?_
          refine V_iconst (v := 1) (by decide) eX2_town_98 ?_
          refine M_sl (n := 1) mb rfl (by omega) (rdn (by omega) hnt) eX2_town_99 ?_
          refine V_iadd eX2_town_100 ?_
          refine V_iload2 eX2_town_101 ?_
          refine M_ss (n := (186 + nt)) mb (zadd rfl rfl) (by omega) eX2_town_102 ?_
          refine V_aload0 eX2_town_103 rfl ?_
          refine M_ga mb rfl eX2_town_104 fl_X2_8_2 ?_
          refine V_iconst (v := 1) (by decide) eX2_town_107 ?_
          refine V_dup2 rfl rfl eX2_town_108 ?_
          refine M_sl (n := 1) mb rfl (by omega) (rdn (by omega) (rdn (by omega) hnt)) eX2_town_109 ?_
          refine V_iconst (v := 1) (by decide) eX2_town_110 ?_
          refine V_iadd eX2_town_111 ?_
          refine M_ss (n := 1) mb rfl (by omega) eX2_town_112 ?_
          refine V_aload0 eX2_town_113 rfl ?_
          refine M_ga mb rfl eX2_town_114 fl_X2_8_2 ?_
          refine V_iconst (v := 1) (by decide) eX2_town_117 ?_
          refine M_sl (n := 1) mb rfl (by omega) ((va_up_self _ _ _).trans (zadd rfl rfl)) eX2_town_118 ?_
          refine V_iconst (v := 1) (by decide) eX2_town_119 ?_
          refine V_isub eX2_town_120 ?_
          exact V_ireturn eX2_town_121 rfl (Rv.p (by clear mb; (try clear ih); first | grind [o_town] | grind [o_town, nI_pred, nI_1]))
        · refine V_bipush (v := -4) (by decide) eX2_town_68 ?_
          exact V_ireturn eX2_town_70 rfl (Rv.p (by clear mb; (try clear ih); first | grind [o_town] | grind [o_town, nI_pred, nI_1]))
      · have hlt := nnle c31 (by omega) (by omega)
        refine V_aload0 eX2_town_34 rfl ?_
        refine M_ga mb rfl eX2_town_35 fl_X2_8_2 ?_
        refine V_sipush (v := 180) (by decide) eX2_town_38 ?_
        refine V_iload3 eX2_town_41 ?_
        refine V_iadd eX2_town_42 ?_
        refine M_sl (n := (180 + i)) mb (zadd rfl rfl) (by omega) rfl eX2_town_43 ?_
        refine V_iload1 eX2_town_44 ?_
        refine V_if_icmpne eX2_town_45 (fun c45 => ?_) (fun c45 => ?_)
        · refine V_iincN3 rfl eX2_town_51 rfl ?_
          refine V_goto eX2_town_54 ?_
          exact ih hlt (fun t ht => by rcases (show t < i ∨ t = i by omega) with q | rfl; exact hinv t q; exact c45)
        · have hs := sn_of hnt (by omega)
          have hyes : ∃ t, t < sn S 1 ∧ S (180 + t) = nI c := ⟨i, by omega, c45⟩
          refine V_bipush (v := -3) (by decide) eX2_town_48 ?_
          exact V_ireturn eX2_town_50 rfl (Rv.p (by rw [o_town, if_neg c4, if_neg c16, if_pos hyes]))
    · refine V_bipush (v := -2) (by decide) eX2_town_19 ?_
      exact V_ireturn eX2_town_21 rfl (Rv.p (by clear mb; (try clear ih); first | grind [o_town] | grind [o_town, nI_pred, nI_1]))
  · refine V_iconst (v := -1) (by decide) eX2_town_7 ?_
    exact V_ireturn eX2_town_8 rfl (Rv.p (by clear mb; (try clear ih); first | grind [o_town] | grind [o_town, nI_pred, nI_1]))

def o_coin (S : Nat → Int32) (holder n : Int32) : Int32 × (Nat → Int32) :=
  if zin holder 0 7 = 0 then (-1, S) else if zin n 0 99999 = 0 then (-2, S) else (S (192 + holder.toNatClampNeg), va_up S (192 + holder.toNatClampNeg) n)
def o_man (S : Nat → Int32) (n : Int32) : Int32 × (Nat → Int32) := if zin n 0 99 = 0 then (-2, S) else (S 5, va_up S 5 n)
def o_hand (S : Nat → Int32) (s p : Int32) : Int32 × (Nat → Int32) :=
  if zin s 1 30 = 0 ∨ zin p 1 30 = 0 then (-2, S) else if S 7 = 7 then (-4, S) else
  (S 7 + 1, va_up (va_up (va_up S (11470 + sn S 7) s) (11480 + sn S 7) p) 7 (S 7 + 1))
def o_board (S : Nat → Int32) (holder bill yes : Int32) : Int32 × (Nat → Int32) :=
  if zin holder 0 7 = 0 ∨ zof S bill 3 = false then (-1, S) else if S 6 = 60 then (-4, S) else
  (S 6 + 1, va_up (va_up (va_up (va_up S (11290 + sn S 6) holder) (11350 + sn S 6) bill) (11410 + sn S 6) (if yes = 0 then 0 else 1)) 6 (S 6 + 1))
theorem c_coin {w : Wd} {h : Hp} {m : Nat} {ad : Nat → Nat} {A : Nat → Nat → Int32} {B : Nat → Nat → Int64} {F S : Nat → Int32} (mb : MB h m ad) (holder : Int32) (n : Int32)  : Con w mX2_coin cX2_coin 5 0 0 [.ref m, .int holder, .int n] (ms h A B F S) (Rv (.int (o_coin S holder n).1) (ms h A B F (o_coin S holder n).2)) := by
  refine Con.of (by decide +kernel) rfl rfl ?_
  show V w mX2_coin cX2_coin 5 0 0 _ 0 [some (.ref m), some (.int holder), some (.int n), none] [] _
  refine V_iload1 eX2_coin_0 ?_
  refine C0_static eX2_coin_1 lmX2_isHolder q1977 q1978 (c_isHolder _ _) rfl rfl rfl rfl ?_
  refine V_ifne eX2_coin_4 (fun c4 => ?_) (fun c4 => ?_)
  · obtain ⟨c, hc, rfl⟩ := zinN (m := 7) c4 rfl (by decide)
    have hcl : (nI c).toNatClampNeg = c := nI_clamp (by omega)
    refine V_iload2 eX2_coin_9 ?_
    refine V_iconst (v := 0) (by decide) eX2_coin_10 ?_
    refine V_ldc (v := 99999) eX2_coin_11 q1980 ?_
    refine C0_static eX2_coin_13 lmX2_in q1966 q1967 (c_in _ _ _ _) rfl rfl rfl rfl ?_
    refine V_ifne eX2_coin_16 (fun c16 => ?_) (fun c16 => ?_)
    · refine V_aload0 eX2_coin_22 rfl ?_
      refine M_ga mb rfl eX2_coin_23 fl_X2_8_2 ?_
      refine V_sipush (v := 192) (by decide) eX2_coin_26 ?_
      refine V_iload1 eX2_coin_29 ?_
      refine V_iadd eX2_coin_30 ?_
      refine M_sl (n := (192 + c)) mb (zadd rfl rfl) (by omega) rfl eX2_coin_31 ?_
      refine V_istore3 rfl eX2_coin_32 rfl ?_
      refine V_aload0 eX2_coin_33 rfl ?_
      refine M_ga mb rfl eX2_coin_34 fl_X2_8_2 ?_
      refine V_sipush (v := 192) (by decide) eX2_coin_37 ?_
      refine V_iload1 eX2_coin_40 ?_
      refine V_iadd eX2_coin_41 ?_
      refine V_iload2 eX2_coin_42 ?_
      refine M_ss (n := (192 + c)) mb (zadd rfl rfl) (by omega) eX2_coin_43 ?_
      refine V_iload3 eX2_coin_44 ?_
      exact V_ireturn eX2_coin_45 rfl (Rv.p (by clear mb; (try clear ih); first | grind [o_coin] | grind [o_coin, nI_pred, nI_1]))
    · refine V_bipush (v := -2) (by decide) eX2_coin_19 ?_
      exact V_ireturn eX2_coin_21 rfl (Rv.p (by clear mb; (try clear ih); first | grind [o_coin] | grind [o_coin, nI_pred, nI_1]))
  · refine V_iconst (v := -1) (by decide) eX2_coin_7 ?_
    exact V_ireturn eX2_coin_8 rfl (Rv.p (by clear mb; (try clear ih); first | grind [o_coin] | grind [o_coin, nI_pred, nI_1]))

theorem c_man {w : Wd} {h : Hp} {m : Nat} {ad : Nat → Nat} {A : Nat → Nat → Int32} {B : Nat → Nat → Int64} {F S : Nat → Int32} (mb : MB h m ad) (n : Int32)  : Con w mX2_man cX2_man 5 0 0 [.ref m, .int n] (ms h A B F S) (Rv (.int (o_man S n).1) (ms h A B F (o_man S n).2)) := by
  refine Con.of (by decide +kernel) rfl rfl ?_
  show V w mX2_man cX2_man 5 0 0 _ 0 [some (.ref m), some (.int n), none] [] _
  refine V_iload1 eX2_man_0 ?_
  refine V_iconst (v := 0) (by decide) eX2_man_1 ?_
  refine V_bipush (v := 99) (by decide) eX2_man_2 ?_
  refine C0_static eX2_man_4 lmX2_in q1966 q1967 (c_in _ _ _ _) rfl rfl rfl rfl ?_
  refine V_ifne eX2_man_7 (fun c7 => ?_) (fun c7 => ?_)
  · refine V_aload0 eX2_man_13 rfl ?_
    refine M_ga mb rfl eX2_man_14 fl_X2_8_2 ?_
    refine V_iconst (v := 5) (by decide) eX2_man_17 ?_
    refine M_sl (n := 5) mb rfl (by omega) rfl eX2_man_18 ?_
    refine V_istore2 rfl eX2_man_19 rfl ?_
    refine V_aload0 eX2_man_20 rfl ?_
    refine M_ga mb rfl eX2_man_21 fl_X2_8_2 ?_
    refine V_iconst (v := 5) (by decide) eX2_man_24 ?_
    refine V_iload1 eX2_man_25 ?_
    refine M_ss (n := 5) mb rfl (by omega) eX2_man_26 ?_
    refine V_iload2 eX2_man_27 ?_
    exact V_ireturn eX2_man_28 rfl (Rv.p (by clear mb; (try clear ih); first | grind [o_man] | grind [o_man, nI_pred, nI_1]))
  · refine V_bipush (v := -2) (by decide) eX2_man_10 ?_
    exact V_ireturn eX2_man_12 rfl (Rv.p (by clear mb; (try clear ih); first | grind [o_man] | grind [o_man, nI_pred, nI_1]))

theorem c_hand {w : Wd} {h : Hp} {m : Nat} {ad : Nat → Nat} {A : Nat → Nat → Int32} {B : Nat → Nat → Int64} {F S : Nat → Int32} (mb : MB h m ad) (s : Int32) (p : Int32) {nj : Nat} (hnj : S 7 = nI nj) (hnj7 : nj ≤ 7) : Con w mX2_hand cX2_hand 5 0 0 [.ref m, .int s, .int p] (ms h A B F S) (Rv (.int (o_hand S s p).1) (ms h A B F (o_hand S s p).2)) := by
  refine Con.of (by decide +kernel) rfl rfl ?_
  show V w mX2_hand cX2_hand 5 0 0 _ 0 [some (.ref m), some (.int s), some (.int p)] [] _
  refine V_iload1 eX2_hand_0 ?_
  refine V_iconst (v := 1) (by decide) eX2_hand_1 ?_
  refine V_bipush (v := 30) (by decide) eX2_hand_2 ?_
  refine C0_static eX2_hand_4 lmX2_in q1966 q1967 (c_in _ _ _ _) rfl rfl rfl rfl ?_
  refine V_ifeq eX2_hand_7 (fun c7 => ?_) (fun c7 => ?_)
  · refine V_bipush (v := -2) (by decide) eX2_hand_20 ?_
    exact V_ireturn eX2_hand_22 rfl (Rv.p (by clear mb; (try clear ih); first | grind [o_hand] | grind [o_hand, nI_pred, nI_1]))
  · refine V_iload2 eX2_hand_10 ?_
    refine V_iconst (v := 1) (by decide) eX2_hand_11 ?_
    refine V_bipush (v := 30) (by decide) eX2_hand_12 ?_
    refine C0_static eX2_hand_14 lmX2_in q1966 q1967 (c_in _ _ _ _) rfl rfl rfl rfl ?_
    refine V_ifne eX2_hand_17 (fun c17 => ?_) (fun c17 => ?_)
    · refine V_aload0 eX2_hand_23 rfl ?_
      refine M_ga mb rfl eX2_hand_24 fl_X2_8_2 ?_
      refine V_bipush (v := 7) (by decide) eX2_hand_27 ?_
      refine M_sl (n := 7) mb rfl (by omega) hnj eX2_hand_29 ?_
      refine V_bipush (v := 7) (by decide) eX2_hand_30 ?_
      refine V_if_icmpne eX2_hand_32 (fun c32 => ?_) (fun c32 => ?_)
      · have hs := sn_of hnj (by omega)
        refine V_aload0 eX2_hand_38 rfl ?_
        refine M_ga mb rfl eX2_hand_39 fl_X2_8_2 ?_
        refine V_sipush (v := 11470) (by decide) eX2_hand_42 ?_
        refine V_aload0 eX2_hand_45 rfl ?_
        refine M_ga mb rfl eX2_hand_46 fl_X2_8_2 ?_
        refine V_bipush (v := 7) (by decide) eX2_hand_49 ?_
        refine M_sl (n := 7) mb rfl (by omega) hnj eX2_hand_51 ?_
        refine V_iadd eX2_hand_52 ?_
        refine V_iload1 eX2_hand_53 ?_
        refine M_ss (n := (11470 + nj)) mb (zadd rfl rfl) (by omega) eX2_hand_54 ?_
        refine V_aload0 eX2_hand_55 rfl ?_
        refine M_ga mb rfl eX2_hand_56 fl_X2_8_2 ?_
        refine V_sipush (v := 11480) (by decide) eX2_hand_59 ?_
        refine V_aload0 eX2_hand_62 rfl ?_
        refine M_ga mb rfl eX2_hand_63 fl_X2_8_2 ?_
        refine V_bipush (v := 7) (by decide) eX2_hand_66 ?_
        refine M_sl (n := 7) mb rfl (by omega) (rdn (by omega) hnj) eX2_hand_68 ?_
        refine V_iadd eX2_hand_69 ?_
        refine V_iload2 eX2_hand_70 ?_
        refine M_ss (n := (11480 + nj)) mb (zadd rfl rfl) (by omega) eX2_hand_71 ?_
        refine V_aload0 eX2_hand_72 rfl ?_
        refine M_ga mb rfl eX2_hand_73 fl_X2_8_2 ?_
        refine V_bipush (v := 7) (by decide) eX2_hand_76 ?_
        refine V_dup2 rfl rfl eX2_hand_78 ?_
        refine M_sl (n := 7) mb rfl (by omega) (rdn (by omega) (rdn (by omega) hnj)) eX2_hand_79 ?_
        refine V_iconst (v := 1) (by decide) eX2_hand_80 ?_
        refine V_iadd eX2_hand_81 ?_
        refine M_ss (n := 7) mb rfl (by omega) eX2_hand_82 ?_
        refine V_aload0 eX2_hand_83 rfl ?_
        refine M_ga mb rfl eX2_hand_84 fl_X2_8_2 ?_
        refine V_bipush (v := 7) (by decide) eX2_hand_87 ?_
        refine M_sl (n := 7) mb rfl (by omega) ((va_up_self _ _ _).trans (zadd rfl rfl)) eX2_hand_89 ?_
        exact V_ireturn eX2_hand_90 rfl (Rv.p (by clear mb; (try clear ih); first | grind [o_hand] | grind [o_hand, nI_pred, nI_1]))
      · refine V_bipush (v := -4) (by decide) eX2_hand_35 ?_
        exact V_ireturn eX2_hand_37 rfl (Rv.p (by clear mb; (try clear ih); first | grind [o_hand] | grind [o_hand, nI_pred, nI_1]))
    · refine V_bipush (v := -2) (by decide) eX2_hand_20 ?_
      exact V_ireturn eX2_hand_22 rfl (Rv.p (by clear mb; (try clear ih); first | grind [o_hand] | grind [o_hand, nI_pred, nI_1]))

theorem c_board {w : Wd} {h : Hp} {m : Nat} {ad : Nat → Nat} {A : Nat → Nat → Int32} {B : Nat → Nat → Int64} {F S : Nat → Int32} (mb : MB h m ad) (holder : Int32) (bill : Int32) (yes : Int32) {np nv : Nat} (hnp : S 2 = nI np) (hnp60 : np ≤ 60) (hnv : S 6 = nI nv) (hnv60 : nv ≤ 60) : Con w mX2_board cX2_board 5 0 0 [.ref m, .int holder, .int bill, .int yes] (ms h A B F S) (Rv (.int (o_board S holder bill yes).1) (ms h A B F (o_board S holder bill yes).2)) := by
  refine Con.of (by decide +kernel) rfl rfl ?_
  show V w mX2_board cX2_board 5 0 0 _ 0 [some (.ref m), some (.int holder), some (.int bill), some (.int yes)] [] _
  refine V_iload1 eX2_board_0 ?_
  refine C0_static eX2_board_1 lmX2_isHolder q1977 q1978 (c_isHolder _ _) rfl rfl rfl rfl ?_
  refine V_ifeq eX2_board_4 (fun c4 => ?_) (fun c4 => ?_)
  · refine V_iconst (v := -1) (by decide) eX2_board_16 ?_
    exact V_ireturn eX2_board_17 rfl (Rv.p (by clear mb; (try clear ih); first | grind [o_board] | grind [o_board, nI_pred, nI_1]))
  · refine V_aload0 eX2_board_7 rfl ?_
    refine V_iload2 eX2_board_8 ?_
    refine V_iconst (v := 3) (by decide) eX2_board_9 ?_
    refine M_call mb eX2_board_10 lmX2_isOf q2119 q2121 rfl qs67 (c_isOf mb _ _ hnp hnp60) rfl rfl rfl rfl ?_
    refine V_ifne eX2_board_13 (fun c13 => ?_) (fun c13 => ?_)
    · have hz := bI_n0.mp c13
      refine V_aload0 eX2_board_18 rfl ?_
      refine M_ga mb rfl eX2_board_19 fl_X2_8_2 ?_
      refine V_bipush (v := 6) (by decide) eX2_board_22 ?_
      refine M_sl (n := 6) mb rfl (by omega) hnv eX2_board_24 ?_
      refine V_bipush (v := 60) (by decide) eX2_board_25 ?_
      refine V_if_icmpne eX2_board_27 (fun c27 => ?_) (fun c27 => ?_)
      · have hs := sn_of hnv (by omega)
        refine V_aload0 eX2_board_33 rfl ?_
        refine M_ga mb rfl eX2_board_34 fl_X2_8_2 ?_
        refine V_sipush (v := 11290) (by decide) eX2_board_37 ?_
        refine V_aload0 eX2_board_40 rfl ?_
        refine M_ga mb rfl eX2_board_41 fl_X2_8_2 ?_
        refine V_bipush (v := 6) (by decide) eX2_board_44 ?_
        refine M_sl (n := 6) mb rfl (by omega) hnv eX2_board_46 ?_
        refine V_iadd eX2_board_47 ?_
        refine V_iload1 eX2_board_48 ?_
        refine M_ss (n := (11290 + nv)) mb (zadd rfl rfl) (by omega) eX2_board_49 ?_
        refine V_aload0 eX2_board_50 rfl ?_
        refine M_ga mb rfl eX2_board_51 fl_X2_8_2 ?_
        refine V_sipush (v := 11350) (by decide) eX2_board_54 ?_
        refine V_aload0 eX2_board_57 rfl ?_
        refine M_ga mb rfl eX2_board_58 fl_X2_8_2 ?_
        refine V_bipush (v := 6) (by decide) eX2_board_61 ?_
        refine M_sl (n := 6) mb rfl (by omega) (rdn (by omega) hnv) eX2_board_63 ?_
        refine V_iadd eX2_board_64 ?_
        refine V_iload2 eX2_board_65 ?_
        refine M_ss (n := (11350 + nv)) mb (zadd rfl rfl) (by omega) eX2_board_66 ?_
        refine V_aload0 eX2_board_67 rfl ?_
        refine M_ga mb rfl eX2_board_68 fl_X2_8_2 ?_
        refine V_sipush (v := 11410) (by decide) eX2_board_71 ?_
        refine V_aload0 eX2_board_74 rfl ?_
        refine M_ga mb rfl eX2_board_75 fl_X2_8_2 ?_
        refine V_bipush (v := 6) (by decide) eX2_board_78 ?_
        refine M_sl (n := 6) mb rfl (by omega) (rdn (by omega) (rdn (by omega) hnv)) eX2_board_80 ?_
        refine V_iadd eX2_board_81 ?_
        refine V_iload3 eX2_board_82 ?_
        refine V_ifeq eX2_board_83 (fun c83 => ?_) (fun c83 => ?_)
        · refine V_iconst (v := 0) (by decide) eX2_board_90 ?_
          refine M_ss (n := (11410 + nv)) mb (zadd rfl rfl) (by omega) eX2_board_91 ?_
          refine V_aload0 eX2_board_92 rfl ?_
          refine M_ga mb rfl eX2_board_93 fl_X2_8_2 ?_
          refine V_bipush (v := 6) (by decide) eX2_board_96 ?_
          refine V_dup2 rfl rfl eX2_board_98 ?_
          refine M_sl (n := 6) mb rfl (by omega) (rdn (by omega) (rdn (by omega) (rdn (by omega) hnv))) eX2_board_99 ?_
          refine V_iconst (v := 1) (by decide) eX2_board_100 ?_
          refine V_iadd eX2_board_101 ?_
          refine M_ss (n := 6) mb rfl (by omega) eX2_board_102 ?_
          refine V_aload0 eX2_board_103 rfl ?_
          refine M_ga mb rfl eX2_board_104 fl_X2_8_2 ?_
          refine V_bipush (v := 6) (by decide) eX2_board_107 ?_
          refine M_sl (n := 6) mb rfl (by omega) ((va_up_self _ _ _).trans (zadd rfl rfl)) eX2_board_109 ?_
          exact V_ireturn eX2_board_110 rfl (Rv.p (by clear mb; (try clear ih); first | grind [o_board] | grind [o_board, nI_pred, nI_1]))
        · refine V_iconst (v := 1) (by decide) eX2_board_86 ?_
          refine V_goto eX2_board_87 ?_
          refine M_ss (n := (11410 + nv)) mb (zadd rfl rfl) (by omega) eX2_board_91 ?_
          refine V_aload0 eX2_board_92 rfl ?_
          refine M_ga mb rfl eX2_board_93 fl_X2_8_2 ?_
          refine V_bipush (v := 6) (by decide) eX2_board_96 ?_
          refine V_dup2 rfl rfl eX2_board_98 ?_
          refine M_sl (n := 6) mb rfl (by omega) (rdn (by omega) (rdn (by omega) (rdn (by omega) hnv))) eX2_board_99 ?_
          refine V_iconst (v := 1) (by decide) eX2_board_100 ?_
          refine V_iadd eX2_board_101 ?_
          refine M_ss (n := 6) mb rfl (by omega) eX2_board_102 ?_
          refine V_aload0 eX2_board_103 rfl ?_
          refine M_ga mb rfl eX2_board_104 fl_X2_8_2 ?_
          refine V_bipush (v := 6) (by decide) eX2_board_107 ?_
          refine M_sl (n := 6) mb rfl (by omega) ((va_up_self _ _ _).trans (zadd rfl rfl)) eX2_board_109 ?_
          exact V_ireturn eX2_board_110 rfl (Rv.p (by clear mb; (try clear ih); first | grind [o_board] | grind [o_board, nI_pred, nI_1]))
      · refine V_bipush (v := -4) (by decide) eX2_board_30 ?_
        exact V_ireturn eX2_board_32 rfl (Rv.p (by clear mb; (try clear ih); first | grind [o_board] | grind [o_board, nI_pred, nI_1]))
    · have hz := bI_0.mp c13
      refine V_iconst (v := -1) (by decide) eX2_board_16 ?_
      exact V_ireturn eX2_board_17 rfl (Rv.p (by clear mb; (try clear ih); first | grind [o_board] | grind [o_board, nI_pred, nI_1]))
