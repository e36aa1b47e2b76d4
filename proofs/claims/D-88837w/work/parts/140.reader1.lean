theorem ms_extF {h : Hp} {A : Nat → Nat → Int32} {B : Nat → Nat → Int64} {F F' S : Nat → Int32} (e : F = F') : ms h A B F S = ms h A B F' S := by rw [e]
def o_here (S : Nat → Int32) (a : Nat) (sp : Nat) (ln : Nat) : Int32 :=
  if (nI ln) ≤ (nI sp) then
    (-1 : Int32)
  else
    (S ((9640 + (140 * a)) + sp))
theorem c_here {w : Wd} {h : Hp} {m : Nat} {ad : Nat → Nat} {A : Nat → Nat → Int32} {B : Nat → Nat → Int64} {F S : Nat → Int32} (mb : MB h m ad)  {a sp ln : Nat} (hF4 : F 4 = nI a) (ha : a < 9) (hF5 : F 5 = nI sp) (hsp : sp ≤ ln) (hln : S (9630 + a) = nI ln) (hln4 : ln ≤ 140) : Con w mX2_here cX2_here 1 0 0 [.ref m] (ms h A B F S) (Rv (.int (o_here S a sp ln)) (ms h A B F S)) := by
  refine Con.of (by decide +kernel) rfl rfl ?_
  show V w mX2_here cX2_here 1 0 0 _ 0 [some (.ref m)] [] _
  refine V_aload0 eX2_here_0 rfl ?_
  refine M_gi mb (Or.inl rfl) hF5 eX2_here_1 fl_X2_75_2 ?_
  refine V_aload0 eX2_here_4 rfl ?_
  refine M_ga mb rfl eX2_here_5 fl_X2_8_2 ?_
  refine V_sipush (v := 9630) (by decide) eX2_here_8 ?_
  refine V_aload0 eX2_here_11 rfl ?_
  refine M_gi mb (Or.inl rfl) hF4 eX2_here_12 fl_X2_78_2 ?_
  refine V_iadd eX2_here_15 ?_
  refine M_sl (n := (9630 + a)) mb (zadd rfl rfl) (by omega) hln eX2_here_16 ?_
  refine V_if_icmpge eX2_here_17 (fun c17 => ?_) (fun c17 => ?_)
  · refine V_iconst (v := -1) (by decide) eX2_here_45 ?_
    have hE : (-1 : Int32) = o_here S a sp ln := by simp only [o_here, if_pos c17]
    exact V_ireturn eX2_here_46 rfl (by rw [← hE]; exact ⟨rfl, rfl⟩)
  · have hlt := nnle c17 (by omega) (by omega)
    refine V_aload0 eX2_here_20 rfl ?_
    refine M_ga mb rfl eX2_here_21 fl_X2_8_2 ?_
    refine V_sipush (v := 9640) (by decide) eX2_here_24 ?_
    refine V_sipush (v := 140) (by decide) eX2_here_27 ?_
    refine V_aload0 eX2_here_30 rfl ?_
    refine M_gi mb (Or.inl rfl) hF4 eX2_here_31 fl_X2_78_2 ?_
    refine V_imul eX2_here_34 ?_
    refine V_iadd eX2_here_35 ?_
    refine V_aload0 eX2_here_36 rfl ?_
    refine M_gi mb (Or.inl rfl) hF5 eX2_here_37 fl_X2_75_2 ?_
    refine V_iadd eX2_here_40 ?_
    refine M_sl (n := ((9640 + (140 * a)) + sp)) mb (zadd (zadd rfl (zmul rfl rfl)) rfl) (by omega) rfl eX2_here_41 ?_
    refine V_goto eX2_here_42 ?_
    have hE : (S ((9640 + (140 * a)) + sp)) = o_here S a sp ln := by simp only [o_here, if_neg c17]
    exact V_ireturn eX2_here_46 rfl (by rw [← hE]; exact ⟨rfl, rfl⟩)

theorem here_lt {S : Nat → Int32} {a sp ln : Nat} (h : ¬ o_here S a sp ln = -1) (hs : sp ≤ ln) (hl : ln ≤ 140) : sp < ln := by
  rcases Nat.lt_or_ge sp ln with q | q
  · exact q
  · exfalso
    apply h
    unfold o_here
    rw [if_pos ((nI_leI (by omega) (by omega)).mpr q)]
def o_must (S : Nat → Int32) (F : Nat → Int32) (a : Nat) (sp : Nat) (ln : Nat) (c : Int32) : Int32 × Int32 :=
  if (F 6) = 0 then
    if (o_here S a sp ln) = c then
      ((nI (sp + 1)), (0 : Int32))
    else
      ((nI (sp + 0)), (1 : Int32))
  else
    ((nI (sp + 0)), (1 : Int32))
theorem c_must {w : Wd} {h : Hp} {m : Nat} {ad : Nat → Nat} {A : Nat → Nat → Int32} {B : Nat → Nat → Int64} {F S : Nat → Int32} (mb : MB h m ad) (c : Int32) {a sp ln : Nat} (hF4 : F 4 = nI a) (ha : a < 9) (hF5 : F 5 = nI sp) (hsp : sp ≤ ln) (hln : S (9630 + a) = nI ln) (hln4 : ln ≤ 140) (hc : ¬ c = -1) : Con w mX2_must cX2_must 2 0 0 [.ref m, .int c] (ms h A B F S) (Ru (ms h A B (va_up (va_up F 5 (o_must S F a sp ln c).1) 6 (o_must S F a sp ln c).2) S)) := by
  refine Con.of (by decide +kernel) rfl rfl ?_
  show V w mX2_must cX2_must 2 0 0 _ 0 [some (.ref m), some (.int c)] [] _
  rw [ms_extF (show F = (va_up (va_up F 5 (F 5)) 6 (F 6)) from by
    funext q
    by_cases e5 : q = 5
    · subst e5; rfl
    by_cases e6 : q = 6
    · subst e6; rfl
    simp only [va_up, if_neg e5, if_neg e6])]
  rw [hF5]
  refine V_aload0 eX2_must_0 rfl ?_
  refine V_aload0 eX2_must_1 rfl ?_
  refine M_gi mb (Or.inr rfl) (show _ = (F 6) from rfl) eX2_must_2 fl_X2_81_2 ?_
  refine V_ifne eX2_must_5 (fun c5 => ?_) (fun c5 => ?_)
  · refine V_iconst (v := 1) (by decide) eX2_must_16 ?_
    refine V_goto eX2_must_17 ?_
    refine M_pz mb (Or.inl rfl) rfl (by decide) eX2_must_21 fl_X2_81_2 ?_
    rw [ms_extF (show va_up (va_up (va_up F 5 (nI sp)) 6 (F 6)) 6 (1 : Int32) = (va_up (va_up F 5 (nI sp)) 6 (1 : Int32)) from by
        funext q
        by_cases e5 : q = 5
        · subst e5; rfl
        by_cases e6 : q = 6
        · subst e6; rfl
        simp only [va_up, if_neg e5, if_neg e6])]
    refine V_aload0 eX2_must_24 rfl ?_
    refine V_dup rfl eX2_must_25 ?_
    refine M_gi mb (Or.inl rfl) (show _ = (nI sp) from rfl) eX2_must_26 fl_X2_75_2 ?_
    refine V_aload0 eX2_must_29 rfl ?_
    refine M_gi mb (Or.inr rfl) (show _ = (1 : Int32) from rfl) eX2_must_30 fl_X2_81_2 ?_
    refine V_ifeq eX2_must_33 (fun c33 => absurd c33 (by decide)) (fun c33 => ?_)
    refine V_iconst (v := 0) (by decide) eX2_must_36 ?_
    refine V_goto eX2_must_37 ?_
    refine V_iadd eX2_must_41 ?_
    refine M_pi mb (Or.inl rfl) rfl eX2_must_42 fl_X2_75_2 ?_
    rw [show ((nI sp) + (0 : Int32)) = nI (sp + 0) from (zadd rfl rfl)]
    rw [ms_extF (show va_up (va_up (va_up F 5 (nI sp)) 6 (1 : Int32)) 5 (nI (sp + 0)) = (va_up (va_up F 5 (nI (sp + 0))) 6 (1 : Int32)) from by
        funext q
        by_cases e5 : q = 5
        · subst e5; rfl
        by_cases e6 : q = 6
        · subst e6; rfl
        simp only [va_up, if_neg e5, if_neg e6])]
    have hE : ((nI (sp + 0)), (1 : Int32)) = o_must S F a sp ln c := by simp only [o_must, if_neg c5]
    exact V_return (x := ()) eX2_must_45 rfl (by rw [← hE]; exact ⟨rfl, rfl⟩)
  · refine V_aload0 eX2_must_8 rfl ?_
    refine M_call mb eX2_must_9 lmX2_here q2063 q2065 rfl qs57 (c_here mb (a := a) (sp := sp) (ln := ln) hF4 ha (show _ = nI sp from rfl) (by omega) hln hln4) rfl rfl rfl rfl ?_
    refine V_iload1 eX2_must_12 ?_
    refine V_if_icmpeq eX2_must_13 (fun c13 => ?_) (fun c13 => ?_)
    · have hl := here_lt (by rw [c13]; exact hc) hsp hln4
      refine V_iconst (v := 0) (by decide) eX2_must_20 ?_
      refine M_pz mb (Or.inl rfl) rfl (by decide) eX2_must_21 fl_X2_81_2 ?_
      rw [ms_extF (show va_up (va_up (va_up F 5 (nI sp)) 6 (F 6)) 6 (0 : Int32) = (va_up (va_up F 5 (nI sp)) 6 (0 : Int32)) from by
          funext q
          by_cases e5 : q = 5
          · subst e5; rfl
          by_cases e6 : q = 6
          · subst e6; rfl
          simp only [va_up, if_neg e5, if_neg e6])]
      refine V_aload0 eX2_must_24 rfl ?_
      refine V_dup rfl eX2_must_25 ?_
      refine M_gi mb (Or.inl rfl) (show _ = (nI sp) from rfl) eX2_must_26 fl_X2_75_2 ?_
      refine V_aload0 eX2_must_29 rfl ?_
      refine M_gi mb (Or.inr rfl) (show _ = (0 : Int32) from rfl) eX2_must_30 fl_X2_81_2 ?_
      refine V_ifeq eX2_must_33 (fun c33 => ?_) (fun c33 => absurd c33 (by decide))
      refine V_iconst (v := 1) (by decide) eX2_must_40 ?_
      refine V_iadd eX2_must_41 ?_
      refine M_pi mb (Or.inl rfl) rfl eX2_must_42 fl_X2_75_2 ?_
      rw [show ((nI sp) + (1 : Int32)) = nI (sp + 1) from (zadd rfl rfl)]
      rw [ms_extF (show va_up (va_up (va_up F 5 (nI sp)) 6 (0 : Int32)) 5 (nI (sp + 1)) = (va_up (va_up F 5 (nI (sp + 1))) 6 (0 : Int32)) from by
          funext q
          by_cases e5 : q = 5
          · subst e5; rfl
          by_cases e6 : q = 6
          · subst e6; rfl
          simp only [va_up, if_neg e5, if_neg e6])]
      have hE : ((nI (sp + 1)), (0 : Int32)) = o_must S F a sp ln c := by simp only [o_must, if_pos c5, if_pos c13]
      exact V_return (x := ()) eX2_must_45 rfl (by rw [← hE]; exact ⟨rfl, rfl⟩)
    · refine V_iconst (v := 1) (by decide) eX2_must_16 ?_
      refine V_goto eX2_must_17 ?_
      refine M_pz mb (Or.inl rfl) rfl (by decide) eX2_must_21 fl_X2_81_2 ?_
      rw [ms_extF (show va_up (va_up (va_up F 5 (nI sp)) 6 (F 6)) 6 (1 : Int32) = (va_up (va_up F 5 (nI sp)) 6 (1 : Int32)) from by
          funext q
          by_cases e5 : q = 5
          · subst e5; rfl
          by_cases e6 : q = 6
          · subst e6; rfl
          simp only [va_up, if_neg e5, if_neg e6])]
      refine V_aload0 eX2_must_24 rfl ?_
      refine V_dup rfl eX2_must_25 ?_
      refine M_gi mb (Or.inl rfl) (show _ = (nI sp) from rfl) eX2_must_26 fl_X2_75_2 ?_
      refine V_aload0 eX2_must_29 rfl ?_
      refine M_gi mb (Or.inr rfl) (show _ = (1 : Int32) from rfl) eX2_must_30 fl_X2_81_2 ?_
      refine V_ifeq eX2_must_33 (fun c33 => absurd c33 (by decide)) (fun c33 => ?_)
      refine V_iconst (v := 0) (by decide) eX2_must_36 ?_
      refine V_goto eX2_must_37 ?_
      refine V_iadd eX2_must_41 ?_
      refine M_pi mb (Or.inl rfl) rfl eX2_must_42 fl_X2_75_2 ?_
      rw [show ((nI sp) + (0 : Int32)) = nI (sp + 0) from (zadd rfl rfl)]
      rw [ms_extF (show va_up (va_up (va_up F 5 (nI sp)) 6 (1 : Int32)) 5 (nI (sp + 0)) = (va_up (va_up F 5 (nI (sp + 0))) 6 (1 : Int32)) from by
          funext q
          by_cases e5 : q = 5
          · subst e5; rfl
          by_cases e6 : q = 6
          · subst e6; rfl
          simp only [va_up, if_neg e5, if_neg e6])]
      have hE : ((nI (sp + 0)), (1 : Int32)) = o_must S F a sp ln c := by simp only [o_must, if_pos c5, if_neg c13]
      exact V_return (x := ()) eX2_must_45 rfl (by rw [← hE]; exact ⟨rfl, rfl⟩)

def o_number (S : Nat → Int32) (F : Nat → Int32) (a : Nat) (sp : Nat) (ln : Nat) : Int32 × Int32 × Int32 :=
  if (F 6) = 0 then
    if (zin (o_here S a sp ln) (48 : Int32) (57 : Int32)) = 0 then
      ((0 : Int32), (nI sp), (1 : Int32))
    else
      if (zin (o_here S a (sp + 1) ln) (48 : Int32) (57 : Int32)) = 0 then
        (((((10 : Int32) * (0 : Int32)) + (o_here S a sp ln)) - (48 : Int32)), (nI (sp + 1)), (0 : Int32))
      else
        if ((((10 : Int32) * (0 : Int32)) + (o_here S a sp ln)) - (48 : Int32)) ≤ 0 then
          (((((10 : Int32) * (0 : Int32)) + (o_here S a sp ln)) - (48 : Int32)), (nI (sp + 1)), (0 : Int32))
        else
          if (zin (o_here S a ((sp + 1) + 1) ln) (48 : Int32) (57 : Int32)) = 0 then
            (((((10 : Int32) * ((((10 : Int32) * (0 : Int32)) + (o_here S a sp ln)) - (48 : Int32))) + (o_here S a (sp + 1) ln)) - (48 : Int32)), (nI ((sp + 1) + 1)), (0 : Int32))
          else
            if ((((10 : Int32) * ((((10 : Int32) * (0 : Int32)) + (o_here S a sp ln)) - (48 : Int32))) + (o_here S a (sp + 1) ln)) - (48 : Int32)) ≤ 0 then
              (((((10 : Int32) * ((((10 : Int32) * (0 : Int32)) + (o_here S a sp ln)) - (48 : Int32))) + (o_here S a (sp + 1) ln)) - (48 : Int32)), (nI ((sp + 1) + 1)), (0 : Int32))
            else
              (((((10 : Int32) * ((((10 : Int32) * ((((10 : Int32) * (0 : Int32)) + (o_here S a sp ln)) - (48 : Int32))) + (o_here S a (sp + 1) ln)) - (48 : Int32))) + (o_here S a ((sp + 1) + 1) ln)) - (48 : Int32)), (nI (((sp + 1) + 1) + 1)), (0 : Int32))
  else
    ((0 : Int32), (nI sp), (1 : Int32))
theorem c_number {w : Wd} {h : Hp} {m : Nat} {ad : Nat → Nat} {A : Nat → Nat → Int32} {B : Nat → Nat → Int64} {F S : Nat → Int32} (mb : MB h m ad)  {a sp ln : Nat} (hF4 : F 4 = nI a) (ha : a < 9) (hF5 : F 5 = nI sp) (hsp : sp ≤ ln) (hln : S (9630 + a) = nI ln) (hln4 : ln ≤ 140) : Con w mX2_number cX2_number 2 0 0 [.ref m] (ms h A B F S) (Rv (.int (o_number S F a sp ln).1) (ms h A B (va_up (va_up F 5 (o_number S F a sp ln).2.1) 6 (o_number S F a sp ln).2.2) S)) := by
  refine Con.of (by decide +kernel) rfl rfl ?_
  show V w mX2_number cX2_number 2 0 0 _ 0 [some (.ref m), none, none] [] _
  rw [ms_extF (show F = (va_up (va_up F 5 (F 5)) 6 (F 6)) from by
    funext q
    by_cases e5 : q = 5
    · subst e5; rfl
    by_cases e6 : q = 6
    · subst e6; rfl
    simp only [va_up, if_neg e5, if_neg e6])]
  rw [hF5]
  refine V_aload0 eX2_number_0 rfl ?_
  refine V_aload0 eX2_number_1 rfl ?_
  refine M_gi mb (Or.inr rfl) (show _ = (F 6) from rfl) eX2_number_2 fl_X2_81_2 ?_
  refine V_ifne eX2_number_5 (fun c5 => ?_) (fun c5 => ?_)
  · refine V_iconst (v := 1) (by decide) eX2_number_22 ?_
    refine V_goto eX2_number_23 ?_
    refine M_pz mb (Or.inl rfl) rfl (by decide) eX2_number_27 fl_X2_81_2 ?_
    rw [ms_extF (show va_up (va_up (va_up F 5 (nI sp)) 6 (F 6)) 6 (1 : Int32) = (va_up (va_up F 5 (nI sp)) 6 (1 : Int32)) from by
        funext q
        by_cases e5 : q = 5
        · subst e5; rfl
        by_cases e6 : q = 6
        · subst e6; rfl
        simp only [va_up, if_neg e5, if_neg e6])]
    refine V_iconst (v := 0) (by decide) eX2_number_30 ?_
    refine V_istore1 rfl eX2_number_31 rfl ?_
    refine V_iconst (v := 0) (by decide) eX2_number_32 ?_
    refine V_istore2 rfl eX2_number_33 rfl ?_
    refine V_iload2 eX2_number_34 ?_
    refine V_iconst (v := 3) (by decide) eX2_number_35 ?_
    refine V_if_icmpge eX2_number_36 (fun c36 => absurd c36 (by decide)) (fun c36 => ?_)
    refine V_aload0 eX2_number_39 rfl ?_
    refine M_gi mb (Or.inr rfl) (show _ = (1 : Int32) from rfl) eX2_number_40 fl_X2_81_2 ?_
    refine V_ifne eX2_number_43 (fun c43 => ?_) (fun c43 => absurd c43 (by decide))
    refine V_iload1 eX2_number_97 ?_
    have hE : ((0 : Int32), (nI sp), (1 : Int32)) = o_number S F a sp ln := by simp only [o_number, if_neg c5]
    exact V_ireturn eX2_number_98 rfl (by rw [← hE]; exact ⟨rfl, rfl⟩)
  · refine V_aload0 eX2_number_8 rfl ?_
    refine M_call mb eX2_number_9 lmX2_here q2063 q2065 rfl qs57 (c_here mb (a := a) (sp := sp) (ln := ln) hF4 ha (show _ = nI sp from rfl) (by omega) hln hln4) rfl rfl rfl rfl ?_
    refine V_bipush (v := 48) (by decide) eX2_number_12 ?_
    refine V_bipush (v := 57) (by decide) eX2_number_14 ?_
    refine C0_static eX2_number_16 lmX2_in q1966 q1967 (c_in _ _ _ _) rfl rfl rfl rfl ?_
    refine V_ifne eX2_number_19 (fun c19 => ?_) (fun c19 => ?_)
    · have hd0 := here_lt (fun q => c19 (by rw [q]; decide)) (by omega) hln4
      refine V_iconst (v := 0) (by decide) eX2_number_26 ?_
      refine M_pz mb (Or.inl rfl) rfl (by decide) eX2_number_27 fl_X2_81_2 ?_
      rw [ms_extF (show va_up (va_up (va_up F 5 (nI sp)) 6 (F 6)) 6 (0 : Int32) = (va_up (va_up F 5 (nI sp)) 6 (0 : Int32)) from by
          funext q
          by_cases e5 : q = 5
          · subst e5; rfl
          by_cases e6 : q = 6
          · subst e6; rfl
          simp only [va_up, if_neg e5, if_neg e6])]
      refine V_iconst (v := 0) (by decide) eX2_number_30 ?_
      refine V_istore1 rfl eX2_number_31 rfl ?_
      refine V_iconst (v := 0) (by decide) eX2_number_32 ?_
      refine V_istore2 rfl eX2_number_33 rfl ?_
      refine V_iload2 eX2_number_34 ?_
      refine V_iconst (v := 3) (by decide) eX2_number_35 ?_
      refine V_if_icmpge eX2_number_36 (fun c36 => absurd c36 (by decide)) (fun c36 => ?_)
      refine V_aload0 eX2_number_39 rfl ?_
      refine M_gi mb (Or.inr rfl) (show _ = (0 : Int32) from rfl) eX2_number_40 fl_X2_81_2 ?_
      refine V_ifne eX2_number_43 (fun c43 => absurd c43 (by decide)) (fun c43 => ?_)
      refine V_aload0 eX2_number_46 rfl ?_
      refine M_call mb eX2_number_47 lmX2_here q2063 q2065 rfl qs57 (c_here mb (a := a) (sp := sp) (ln := ln) hF4 ha (show _ = nI sp from rfl) (by omega) hln hln4) rfl rfl rfl rfl ?_
      refine V_bipush (v := 48) (by decide) eX2_number_50 ?_
      refine V_bipush (v := 57) (by decide) eX2_number_52 ?_
      refine C0_static eX2_number_54 lmX2_in q1966 q1967 (c_in _ _ _ _) rfl rfl rfl rfl ?_
      refine V_ifeq eX2_number_57 (fun c57 => absurd c57 c19) (fun c57 => ?_)
      refine V_iload2 eX2_number_60 ?_
      refine V_ifeq eX2_number_61 (fun c61 => ?_) (fun c61 => absurd c61 (by decide))
      refine V_bipush (v := 10) (by decide) eX2_number_68 ?_
      refine V_iload1 eX2_number_70 ?_
      refine V_imul eX2_number_71 ?_
      refine V_aload0 eX2_number_72 rfl ?_
      refine M_call mb eX2_number_73 lmX2_here q2063 q2065 rfl qs57 (c_here mb (a := a) (sp := sp) (ln := ln) hF4 ha (show _ = nI sp from rfl) (by omega) hln hln4) rfl rfl rfl rfl ?_
      refine V_iadd eX2_number_76 ?_
      refine V_bipush (v := 48) (by decide) eX2_number_77 ?_
      refine V_isub eX2_number_79 ?_
      refine V_istore1 rfl eX2_number_80 rfl ?_
      refine V_aload0 eX2_number_81 rfl ?_
      refine V_dup rfl eX2_number_82 ?_
      refine M_gi mb (Or.inl rfl) (show _ = (nI sp) from rfl) eX2_number_83 fl_X2_75_2 ?_
      refine V_iconst (v := 1) (by decide) eX2_number_86 ?_
      refine V_iadd eX2_number_87 ?_
      refine M_pi mb (Or.inl rfl) rfl eX2_number_88 fl_X2_75_2 ?_
      rw [show ((nI sp) + (1 : Int32)) = nI (sp + 1) from (zadd rfl rfl)]
      rw [ms_extF (show va_up (va_up (va_up F 5 (nI sp)) 6 (0 : Int32)) 5 (nI (sp + 1)) = (va_up (va_up F 5 (nI (sp + 1))) 6 (0 : Int32)) from by
          funext q
          by_cases e5 : q = 5
          · subst e5; rfl
          by_cases e6 : q = 6
          · subst e6; rfl
          simp only [va_up, if_neg e5, if_neg e6])]
      refine V_iinc2 rfl eX2_number_91 rfl (v := 1) (by decide) ?_
      rw [show (0 : Int32) + (1 : Int32) = (1 : Int32) from by decide]
      refine V_goto eX2_number_94 ?_
      refine V_iload2 eX2_number_34 ?_
      refine V_iconst (v := 3) (by decide) eX2_number_35 ?_
      refine V_if_icmpge eX2_number_36 (fun c36 => absurd c36 (by decide)) (fun c36 => ?_)
      refine V_aload0 eX2_number_39 rfl ?_
      refine M_gi mb (Or.inr rfl) (show _ = (0 : Int32) from rfl) eX2_number_40 fl_X2_81_2 ?_
      refine V_ifne eX2_number_43 (fun c43 => absurd c43 (by decide)) (fun c43 => ?_)
      refine V_aload0 eX2_number_46 rfl ?_
      refine M_call mb eX2_number_47 lmX2_here q2063 q2065 rfl qs57 (c_here mb (a := a) (sp := (sp + 1)) (ln := ln) hF4 ha (show _ = nI (sp + 1) from rfl) (by omega) hln hln4) rfl rfl rfl rfl ?_
      refine V_bipush (v := 48) (by decide) eX2_number_50 ?_
      refine V_bipush (v := 57) (by decide) eX2_number_52 ?_
      refine C0_static eX2_number_54 lmX2_in q1966 q1967 (c_in _ _ _ _) rfl rfl rfl rfl ?_
      refine V_ifeq eX2_number_57 (fun c57 => ?_) (fun c57 => ?_)
      · refine V_iload1 eX2_number_97 ?_
        have hE : (((((10 : Int32) * (0 : Int32)) + (o_here S a sp ln)) - (48 : Int32)), (nI (sp + 1)), (0 : Int32)) = o_number S F a sp ln := by simp only [o_number, if_pos c5, if_neg c19, if_pos c57]
        exact V_ireturn eX2_number_98 rfl (by rw [← hE]; exact ⟨rfl, rfl⟩)
      · have hd1 := here_lt (fun q => c57 (by rw [q]; decide)) (by omega) hln4
        refine V_iload2 eX2_number_60 ?_
        refine V_ifeq eX2_number_61 (fun c61 => absurd c61 (by decide)) (fun c61 => ?_)
        refine V_iload1 eX2_number_64 ?_
        refine V_ifle eX2_number_65 (fun c65 => ?_) (fun c65 => ?_)
        · refine V_iload1 eX2_number_97 ?_
          have hE : (((((10 : Int32) * (0 : Int32)) + (o_here S a sp ln)) - (48 : Int32)), (nI (sp + 1)), (0 : Int32)) = o_number S F a sp ln := by simp only [o_number, if_pos c5, if_neg c19, if_neg c57, if_pos c65]
          exact V_ireturn eX2_number_98 rfl (by rw [← hE]; exact ⟨rfl, rfl⟩)
        · refine V_bipush (v := 10) (by decide) eX2_number_68 ?_
          refine V_iload1 eX2_number_70 ?_
          refine V_imul eX2_number_71 ?_
          refine V_aload0 eX2_number_72 rfl ?_
          refine M_call mb eX2_number_73 lmX2_here q2063 q2065 rfl qs57 (c_here mb (a := a) (sp := (sp + 1)) (ln := ln) hF4 ha (show _ = nI (sp + 1) from rfl) (by omega) hln hln4) rfl rfl rfl rfl ?_
          refine V_iadd eX2_number_76 ?_
          refine V_bipush (v := 48) (by decide) eX2_number_77 ?_
          refine V_isub eX2_number_79 ?_
          refine V_istore1 rfl eX2_number_80 rfl ?_
          refine V_aload0 eX2_number_81 rfl ?_
          refine V_dup rfl eX2_number_82 ?_
          refine M_gi mb (Or.inl rfl) (show _ = (nI (sp + 1)) from rfl) eX2_number_83 fl_X2_75_2 ?_
          refine V_iconst (v := 1) (by decide) eX2_number_86 ?_
          refine V_iadd eX2_number_87 ?_
          refine M_pi mb (Or.inl rfl) rfl eX2_number_88 fl_X2_75_2 ?_
          rw [show ((nI (sp + 1)) + (1 : Int32)) = nI ((sp + 1) + 1) from (zadd rfl rfl)]
          rw [ms_extF (show va_up (va_up (va_up F 5 (nI (sp + 1))) 6 (0 : Int32)) 5 (nI ((sp + 1) + 1)) = (va_up (va_up F 5 (nI ((sp + 1) + 1))) 6 (0 : Int32)) from by
              funext q
              by_cases e5 : q = 5
              · subst e5; rfl
              by_cases e6 : q = 6
              · subst e6; rfl
              simp only [va_up, if_neg e5, if_neg e6])]
          refine V_iinc2 rfl eX2_number_91 rfl (v := 1) (by decide) ?_
          rw [show (1 : Int32) + (1 : Int32) = (2 : Int32) from by decide]
          refine V_goto eX2_number_94 ?_
          refine V_iload2 eX2_number_34 ?_
          refine V_iconst (v := 3) (by decide) eX2_number_35 ?_
          refine V_if_icmpge eX2_number_36 (fun c36 => absurd c36 (by decide)) (fun c36 => ?_)
          refine V_aload0 eX2_number_39 rfl ?_
          refine M_gi mb (Or.inr rfl) (show _ = (0 : Int32) from rfl) eX2_number_40 fl_X2_81_2 ?_
          refine V_ifne eX2_number_43 (fun c43 => absurd c43 (by decide)) (fun c43 => ?_)
          refine V_aload0 eX2_number_46 rfl ?_
          refine M_call mb eX2_number_47 lmX2_here q2063 q2065 rfl qs57 (c_here mb (a := a) (sp := ((sp + 1) + 1)) (ln := ln) hF4 ha (show _ = nI ((sp + 1) + 1) from rfl) (by omega) hln hln4) rfl rfl rfl rfl ?_
          refine V_bipush (v := 48) (by decide) eX2_number_50 ?_
          refine V_bipush (v := 57) (by decide) eX2_number_52 ?_
          refine C0_static eX2_number_54 lmX2_in q1966 q1967 (c_in _ _ _ _) rfl rfl rfl rfl ?_
          refine V_ifeq eX2_number_57 (fun c57_2 => ?_) (fun c57_2 => ?_)
          · refine V_iload1 eX2_number_97 ?_
            have hE : (((((10 : Int32) * ((((10 : Int32) * (0 : Int32)) + (o_here S a sp ln)) - (48 : Int32))) + (o_here S a (sp + 1) ln)) - (48 : Int32)), (nI ((sp + 1) + 1)), (0 : Int32)) = o_number S F a sp ln := by simp only [o_number, if_pos c5, if_neg c19, if_neg c57, if_neg c65, if_pos c57_2]
            exact V_ireturn eX2_number_98 rfl (by rw [← hE]; exact ⟨rfl, rfl⟩)
          · have hd2 := here_lt (fun q => c57_2 (by rw [q]; decide)) (by omega) hln4
            refine V_iload2 eX2_number_60 ?_
            refine V_ifeq eX2_number_61 (fun c61 => absurd c61 (by decide)) (fun c61 => ?_)
            refine V_iload1 eX2_number_64 ?_
            refine V_ifle eX2_number_65 (fun c65_2 => ?_) (fun c65_2 => ?_)
            · refine V_iload1 eX2_number_97 ?_
              have hE : (((((10 : Int32) * ((((10 : Int32) * (0 : Int32)) + (o_here S a sp ln)) - (48 : Int32))) + (o_here S a (sp + 1) ln)) - (48 : Int32)), (nI ((sp + 1) + 1)), (0 : Int32)) = o_number S F a sp ln := by simp only [o_number, if_pos c5, if_neg c19, if_neg c57, if_neg c65, if_neg c57_2, if_pos c65_2]
              exact V_ireturn eX2_number_98 rfl (by rw [← hE]; exact ⟨rfl, rfl⟩)
            · refine V_bipush (v := 10) (by decide) eX2_number_68 ?_
              refine V_iload1 eX2_number_70 ?_
              refine V_imul eX2_number_71 ?_
              refine V_aload0 eX2_number_72 rfl ?_
              refine M_call mb eX2_number_73 lmX2_here q2063 q2065 rfl qs57 (c_here mb (a := a) (sp := ((sp + 1) + 1)) (ln := ln) hF4 ha (show _ = nI ((sp + 1) + 1) from rfl) (by omega) hln hln4) rfl rfl rfl rfl ?_
              refine V_iadd eX2_number_76 ?_
              refine V_bipush (v := 48) (by decide) eX2_number_77 ?_
              refine V_isub eX2_number_79 ?_
              refine V_istore1 rfl eX2_number_80 rfl ?_
              refine V_aload0 eX2_number_81 rfl ?_
              refine V_dup rfl eX2_number_82 ?_
              refine M_gi mb (Or.inl rfl) (show _ = (nI ((sp + 1) + 1)) from rfl) eX2_number_83 fl_X2_75_2 ?_
              refine V_iconst (v := 1) (by decide) eX2_number_86 ?_
              refine V_iadd eX2_number_87 ?_
              refine M_pi mb (Or.inl rfl) rfl eX2_number_88 fl_X2_75_2 ?_
              rw [show ((nI ((sp + 1) + 1)) + (1 : Int32)) = nI (((sp + 1) + 1) + 1) from (zadd rfl rfl)]
              rw [ms_extF (show va_up (va_up (va_up F 5 (nI ((sp + 1) + 1))) 6 (0 : Int32)) 5 (nI (((sp + 1) + 1) + 1)) = (va_up (va_up F 5 (nI (((sp + 1) + 1) + 1))) 6 (0 : Int32)) from by
                  funext q
                  by_cases e5 : q = 5
                  · subst e5; rfl
                  by_cases e6 : q = 6
                  · subst e6; rfl
                  simp only [va_up, if_neg e5, if_neg e6])]
              refine V_iinc2 rfl eX2_number_91 rfl (v := 1) (by decide) ?_
              rw [show (2 : Int32) + (1 : Int32) = (3 : Int32) from by decide]
              refine V_goto eX2_number_94 ?_
              refine V_iload2 eX2_number_34 ?_
              refine V_iconst (v := 3) (by decide) eX2_number_35 ?_
              refine V_if_icmpge eX2_number_36 (fun c36 => ?_) (fun c36 => absurd c36 (by decide))
              refine V_iload1 eX2_number_97 ?_
              have hE : (((((10 : Int32) * ((((10 : Int32) * ((((10 : Int32) * (0 : Int32)) + (o_here S a sp ln)) - (48 : Int32))) + (o_here S a (sp + 1) ln)) - (48 : Int32))) + (o_here S a ((sp + 1) + 1) ln)) - (48 : Int32)), (nI (((sp + 1) + 1) + 1)), (0 : Int32)) = o_number S F a sp ln := by simp only [o_number, if_pos c5, if_neg c19, if_neg c57, if_neg c65, if_neg c57_2, if_neg c65_2]
              exact V_ireturn eX2_number_98 rfl (by rw [← hE]; exact ⟨rfl, rfl⟩)
    · refine V_iconst (v := 1) (by decide) eX2_number_22 ?_
      refine V_goto eX2_number_23 ?_
      refine M_pz mb (Or.inl rfl) rfl (by decide) eX2_number_27 fl_X2_81_2 ?_
      rw [ms_extF (show va_up (va_up (va_up F 5 (nI sp)) 6 (F 6)) 6 (1 : Int32) = (va_up (va_up F 5 (nI sp)) 6 (1 : Int32)) from by
          funext q
          by_cases e5 : q = 5
          · subst e5; rfl
          by_cases e6 : q = 6
          · subst e6; rfl
          simp only [va_up, if_neg e5, if_neg e6])]
      refine V_iconst (v := 0) (by decide) eX2_number_30 ?_
      refine V_istore1 rfl eX2_number_31 rfl ?_
      refine V_iconst (v := 0) (by decide) eX2_number_32 ?_
      refine V_istore2 rfl eX2_number_33 rfl ?_
      refine V_iload2 eX2_number_34 ?_
      refine V_iconst (v := 3) (by decide) eX2_number_35 ?_
      refine V_if_icmpge eX2_number_36 (fun c36 => absurd c36 (by decide)) (fun c36 => ?_)
      refine V_aload0 eX2_number_39 rfl ?_
      refine M_gi mb (Or.inr rfl) (show _ = (1 : Int32) from rfl) eX2_number_40 fl_X2_81_2 ?_
      refine V_ifne eX2_number_43 (fun c43 => ?_) (fun c43 => absurd c43 (by decide))
      refine V_iload1 eX2_number_97 ?_
      have hE : ((0 : Int32), (nI sp), (1 : Int32)) = o_number S F a sp ln := by simp only [o_number, if_pos c5, if_pos c19]
      exact V_ireturn eX2_number_98 rfl (by rw [← hE]; exact ⟨rfl, rfl⟩)

