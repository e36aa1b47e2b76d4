def D_factorS_278 (S : Nat → Int32) (A : Nat → Nat → Int32) (F : Nat → Int32) (a : Nat) (sp : Nat) (ln : Nat) (op : Nat) (wh : Int32) : Int32 × Int32 × Int32 :=
    if wh = (-1 : Int32) then
      let s8 := ((o_number S (va_up (va_up (va_up F 5 (nI ((sp + 0) + 0))) 6 (1 : Int32)) 7 (nI op)) a ((sp + 0) + 0) ln).2.1).toNatClampNeg
      if (o_here S a (sp + 0) ln) = (60 : Int32) then
        if (o_number S (va_up (va_up (va_up F 5 (nI ((sp + 0) + 0))) 6 (1 : Int32)) 7 (nI op)) a ((sp + 0) + 0) ln).1 ≤ (0 : Int32) then
          ((0 : Int32), (nI s8), (o_number S (va_up (va_up (va_up F 5 (nI ((sp + 0) + 0))) 6 (1 : Int32)) 7 (nI op)) a ((sp + 0) + 0) ln).2.2)
        else
          ((1 : Int32), (nI s8), (o_number S (va_up (va_up (va_up F 5 (nI ((sp + 0) + 0))) 6 (1 : Int32)) 7 (nI op)) a ((sp + 0) + 0) ln).2.2)
      else
        if (0 : Int32) ≤ (o_number S (va_up (va_up (va_up F 5 (nI ((sp + 0) + 0))) 6 (1 : Int32)) 7 (nI op)) a ((sp + 0) + 0) ln).1 then
          ((0 : Int32), (nI s8), (o_number S (va_up (va_up (va_up F 5 (nI ((sp + 0) + 0))) 6 (1 : Int32)) 7 (nI op)) a ((sp + 0) + 0) ln).2.2)
        else
          ((1 : Int32), (nI s8), (o_number S (va_up (va_up (va_up F 5 (nI ((sp + 0) + 0))) 6 (1 : Int32)) 7 (nI op)) a ((sp + 0) + 0) ln).2.2)
    else
      if (o_here S a (sp + 1) ln) = (60 : Int32) then
        let s5 := ((o_number S (va_up (va_up (va_up F 5 (nI ((sp + 1) + 1))) 6 (0 : Int32)) 7 (nI op)) a ((sp + 1) + 1) ln).2.1).toNatClampNeg
        if (o_number S (va_up (va_up (va_up F 5 (nI ((sp + 1) + 1))) 6 (0 : Int32)) 7 (nI op)) a ((sp + 1) + 1) ln).2.2 = 0 then
          let k := wh.toNatClampNeg
          if (o_number S (va_up (va_up (va_up F 5 (nI ((sp + 1) + 1))) 6 (0 : Int32)) 7 (nI op)) a ((sp + 1) + 1) ln).1 ≤ (A 8 k) then
            ((0 : Int32), (nI s5), (o_number S (va_up (va_up (va_up F 5 (nI ((sp + 1) + 1))) 6 (0 : Int32)) 7 (nI op)) a ((sp + 1) + 1) ln).2.2)
          else
            ((1 : Int32), (nI s5), (o_number S (va_up (va_up (va_up F 5 (nI ((sp + 1) + 1))) 6 (0 : Int32)) 7 (nI op)) a ((sp + 1) + 1) ln).2.2)
        else
          if (o_number S (va_up (va_up (va_up F 5 (nI ((sp + 1) + 1))) 6 (0 : Int32)) 7 (nI op)) a ((sp + 1) + 1) ln).1 ≤ (0 : Int32) then
            ((0 : Int32), (nI s5), (o_number S (va_up (va_up (va_up F 5 (nI ((sp + 1) + 1))) 6 (0 : Int32)) 7 (nI op)) a ((sp + 1) + 1) ln).2.2)
          else
            ((1 : Int32), (nI s5), (o_number S (va_up (va_up (va_up F 5 (nI ((sp + 1) + 1))) 6 (0 : Int32)) 7 (nI op)) a ((sp + 1) + 1) ln).2.2)
      else
        if (o_here S a (sp + 1) ln) = (62 : Int32) then
          let s6 := ((o_number S (va_up (va_up (va_up F 5 (nI ((sp + 1) + 1))) 6 (0 : Int32)) 7 (nI op)) a ((sp + 1) + 1) ln).2.1).toNatClampNeg
          if (o_number S (va_up (va_up (va_up F 5 (nI ((sp + 1) + 1))) 6 (0 : Int32)) 7 (nI op)) a ((sp + 1) + 1) ln).2.2 = 0 then
            let k := wh.toNatClampNeg
            if (A 8 k) ≤ (o_number S (va_up (va_up (va_up F 5 (nI ((sp + 1) + 1))) 6 (0 : Int32)) 7 (nI op)) a ((sp + 1) + 1) ln).1 then
              ((0 : Int32), (nI s6), (o_number S (va_up (va_up (va_up F 5 (nI ((sp + 1) + 1))) 6 (0 : Int32)) 7 (nI op)) a ((sp + 1) + 1) ln).2.2)
            else
              ((1 : Int32), (nI s6), (o_number S (va_up (va_up (va_up F 5 (nI ((sp + 1) + 1))) 6 (0 : Int32)) 7 (nI op)) a ((sp + 1) + 1) ln).2.2)
          else
            if (0 : Int32) ≤ (o_number S (va_up (va_up (va_up F 5 (nI ((sp + 1) + 1))) 6 (0 : Int32)) 7 (nI op)) a ((sp + 1) + 1) ln).1 then
              ((0 : Int32), (nI s6), (o_number S (va_up (va_up (va_up F 5 (nI ((sp + 1) + 1))) 6 (0 : Int32)) 7 (nI op)) a ((sp + 1) + 1) ln).2.2)
            else
              ((1 : Int32), (nI s6), (o_number S (va_up (va_up (va_up F 5 (nI ((sp + 1) + 1))) 6 (0 : Int32)) 7 (nI op)) a ((sp + 1) + 1) ln).2.2)
        else
          let s7 := ((o_number S (va_up (va_up (va_up F 5 (nI ((sp + 1) + 0))) 6 (1 : Int32)) 7 (nI op)) a ((sp + 1) + 0) ln).2.1).toNatClampNeg
          if (0 : Int32) ≤ (o_number S (va_up (va_up (va_up F 5 (nI ((sp + 1) + 0))) 6 (1 : Int32)) 7 (nI op)) a ((sp + 1) + 0) ln).1 then
            ((0 : Int32), (nI s7), (o_number S (va_up (va_up (va_up F 5 (nI ((sp + 1) + 0))) 6 (1 : Int32)) 7 (nI op)) a ((sp + 1) + 0) ln).2.2)
          else
            ((1 : Int32), (nI s7), (o_number S (va_up (va_up (va_up F 5 (nI ((sp + 1) + 0))) 6 (1 : Int32)) 7 (nI op)) a ((sp + 1) + 0) ln).2.2)
def o_factorS (S : Nat → Int32) (A : Nat → Nat → Int32) (F : Nat → Int32) (a : Nat) (sp : Nat) (ln : Nat) (rf : Nat → Int32 × Int32 × Int32) (rs : Nat → Int32 × Int32 × Int32) (op : Nat) : Int32 × Int32 × Int32 :=
  if (o_here S a sp ln) = (33 : Int32) then
    if (nI op) = (5 : Int32) then
      if (o_here S a sp ln) = (40 : Int32) then
        let s4 := ((o_must S (va_up (va_up (va_up F 5 (nI (sp + 0))) 6 (1 : Int32)) 7 (nI (op + 1))) a (sp + 0) ln (41 : Int32)).1).toNatClampNeg
        ((0 : Int32), (nI s4), (o_must S (va_up (va_up (va_up F 5 (nI (sp + 0))) 6 (1 : Int32)) 7 (nI (op + 1))) a (sp + 0) ln (41 : Int32)).2)
      else
        ((0 : Int32), (nI (sp + 0)), (1 : Int32))
    else
      let s1 := ((rf (sp + 1)).2.1).toNatClampNeg
      if (rf (sp + 1)).1 = 0 then
        if (o_here S a sp ln) = (40 : Int32) then
          let s3 := ((o_must S (va_up (va_up (va_up F 5 (nI s1)) 6 (rf (sp + 1)).2.2) 7 (nI (op + 1))) a s1 ln (41 : Int32)).1).toNatClampNeg
          ((1 : Int32), (nI s3), (o_must S (va_up (va_up (va_up F 5 (nI s1)) 6 (rf (sp + 1)).2.2) 7 (nI (op + 1))) a s1 ln (41 : Int32)).2)
        else
          ((1 : Int32), (nI s1), (rf (sp + 1)).2.2)
      else
        if (o_here S a sp ln) = (40 : Int32) then
          let s2 := ((o_must S (va_up (va_up (va_up F 5 (nI s1)) 6 (rf (sp + 1)).2.2) 7 (nI (op + 1))) a s1 ln (41 : Int32)).1).toNatClampNeg
          ((0 : Int32), (nI s2), (o_must S (va_up (va_up (va_up F 5 (nI s1)) 6 (rf (sp + 1)).2.2) 7 (nI (op + 1))) a s1 ln (41 : Int32)).2)
        else
          ((0 : Int32), (nI s1), (rf (sp + 1)).2.2)
  else
    if (o_here S a sp ln) = (40 : Int32) then
      if (nI op) = (5 : Int32) then
        let s12 := ((o_must S (va_up (va_up (va_up F 5 (nI (sp + 0))) 6 (1 : Int32)) 7 (nI (op + 1))) a (sp + 0) ln (41 : Int32)).1).toNatClampNeg
        ((0 : Int32), (nI s12), (o_must S (va_up (va_up (va_up F 5 (nI (sp + 0))) 6 (1 : Int32)) 7 (nI (op + 1))) a (sp + 0) ln (41 : Int32)).2)
      else
        let s10 := ((rs (sp + 1)).2.1).toNatClampNeg
        let s11 := ((o_must S (va_up (va_up (va_up F 5 (nI s10)) 6 (rs (sp + 1)).2.2) 7 (nI (op + 1))) a s10 ln (41 : Int32)).1).toNatClampNeg
        ((rs (sp + 1)).1, (nI s11), (o_must S (va_up (va_up (va_up F 5 (nI s10)) 6 (rs (sp + 1)).2.2) 7 (nI (op + 1))) a s10 ln (41 : Int32)).2)
    else
      if (o_here S a sp ln) = (103 : Int32) then
        let s9 := ((o_must S (va_up (va_up (va_up F 5 (nI (sp + 1))) 6 (0 : Int32)) 7 (nI op)) a (sp + 1) ln (61 : Int32)).1).toNatClampNeg
        if (o_must S (va_up (va_up (va_up F 5 (nI (sp + 1))) 6 (0 : Int32)) 7 (nI op)) a (sp + 1) ln (61 : Int32)).2 = 0 then
          if (zin ((o_here S a s9 ln) - (48 : Int32)) (0 : Int32) (1 : Int32)) = 0 then
            if (A 8 5) = ((o_here S a s9 ln) - (48 : Int32)) then
              ((1 : Int32), (nI (s9 + 0)), (1 : Int32))
            else
              ((0 : Int32), (nI (s9 + 0)), (1 : Int32))
          else
            if (A 8 5) = ((o_here S a s9 ln) - (48 : Int32)) then
              ((1 : Int32), (nI (s9 + 1)), (0 : Int32))
            else
              ((0 : Int32), (nI (s9 + 1)), (0 : Int32))
        else
          if (A 8 5) = ((o_here S a s9 ln) - (48 : Int32)) then
            ((1 : Int32), (nI (s9 + 0)), (1 : Int32))
          else
            ((0 : Int32), (nI (s9 + 0)), (1 : Int32))
      else
        if (o_here S a sp ln) = (121 : Int32) then
          (D_factorS_278 S A F a sp ln op (0 : Int32))
        else
          if (o_here S a sp ln) = (116 : Int32) then
            (D_factorS_278 S A F a sp ln op (1 : Int32))
          else
            if (o_here S a sp ln) = (119 : Int32) then
              (D_factorS_278 S A F a sp ln op (2 : Int32))
            else
              if (o_here S a sp ln) = (114 : Int32) then
                (D_factorS_278 S A F a sp ln op (3 : Int32))
              else
                if (o_here S a sp ln) = (99 : Int32) then
                  (D_factorS_278 S A F a sp ln op (4 : Int32))
                else
                  (D_factorS_278 S A F a sp ln op (-1 : Int32))
theorem num_wrong {S F : Nat → Int32} {a sp ln : Nat} (h : F 6 = 1) : (o_number S F a sp ln).2.2 = 1 := by
  simp only [o_number]
  rw [if_neg (by rw [h]; decide)]
theorem c_factorS {w : Wd} {h : Hp} {m : Nat} {ad : Nat → Nat} {A : Nat → Nat → Int32} {B : Nat → Nat → Int64} {F S : Nat → Int32} (mb : MB h m ad)  {a sp ln : Nat} (hF4 : F 4 = nI a) (ha : a < 9) (hF5 : F 5 = nI sp) (hsp : sp ≤ ln) (hln : S (9630 + a) = nI ln) (hln4 : ln ≤ 140) (hF6 : F 6 = 0) {op : Nat} (hF7 : F 7 = nI op) {d : Nat} (hd : 4 ≤ d) (rf rs : Nat → Int32 × Int32 × Int32) (IHf : op ≠ 5 → PC w h m S A a ln (op + 1) mX2_factor cX2_factor d rf) {e : Nat} (hde : d ≤ e) (IHs : op ≠ 5 → PC w h m S A a ln (op + 1) mX2_some cX2_some e rs) (hrf : PW ln rf) (hrs : PW ln rs) : Con w mX2_factor cX2_factor (e + 1) 0 0 [.ref m] (ms h A B F S) (Rv (.int (o_factorS S A F a sp ln rf rs op).1) (ms h A B (va_up (va_up (va_up F 5 (o_factorS S A F a sp ln rf rs op).2.1) 6 (o_factorS S A F a sp ln rf rs op).2.2) 7 (nI op)) S)) := by
  refine Con.of (by decide +kernel) rfl rfl ?_
  show V w mX2_factor cX2_factor (e + 1) 0 0 _ 0 [some (.ref m), none, none, none, none, none] [] _
  rw [ms_extF (show F = (va_up (va_up (va_up F 5 (F 5)) 6 (F 6)) 7 (F 7)) from by
    funext q
    by_cases e5 : q = 5
    · subst e5; rfl
    by_cases e6 : q = 6
    · subst e6; rfl
    by_cases e7 : q = 7
    · subst e7; rfl
    simp only [va_up, if_neg e5, if_neg e6, if_neg e7])]
  rw [hF5]
  rw [hF6]
  rw [hF7]
  refine V_aload0 eX2_factor_0 rfl ?_
  refine M_gi mb (Or.inr rfl) (show _ = (0 : Int32) from rfl) eX2_factor_1 fl_X2_81_2 ?_
  refine V_ifeq eX2_factor_4 (fun c4 => ?_) (fun c4 => absurd c4 (by decide))
  refine V_aload0 eX2_factor_9 rfl ?_
  refine M_call mb eX2_factor_10 lmX2_here q2063 q2065 rfl qs57 (c_here mb (a := a) (sp := sp) (ln := ln) hF4 ha (show _ = nI sp from rfl) (by omega) hln hln4) (zblt (by omega)) rfl rfl rfl ?_
  refine V_istore1 rfl eX2_factor_13 rfl ?_
  refine V_iload1 eX2_factor_14 ?_
  refine V_bipush (v := 33) (by decide) eX2_factor_15 ?_
  refine V_if_icmpeq eX2_factor_17 (fun c17 => ?_) (fun c17 => ?_)
  · have hlt := here_lt (a := a) (sp := sp) (ln := ln) (S := S) (by rw [c17]; decide) hsp hln4
    refine V_aload0 eX2_factor_26 rfl ?_
    refine V_aload0 eX2_factor_27 rfl ?_
    refine M_gi mb (Or.inl rfl) (show _ = (nI op) from rfl) eX2_factor_28 fl_X2_116_2 ?_
    refine V_iconst (v := 5) (by decide) eX2_factor_31 ?_
    refine V_if_icmpne eX2_factor_32 (fun c32 => ?_) (fun c32 => ?_)
    · have hne : op ≠ 5 := fun q => c32 (by rw [q]; rfl)
      refine V_iconst (v := 0) (by decide) eX2_factor_39 ?_
      refine M_pz mb (Or.inl rfl) rfl (by decide) eX2_factor_40 fl_X2_81_2 ?_
      rw [ms_extF (show va_up (va_up (va_up (va_up F 5 (nI sp)) 6 (0 : Int32)) 7 (nI op)) 6 (0 : Int32) = (va_up (va_up (va_up F 5 (nI sp)) 6 (0 : Int32)) 7 (nI op)) from by
          funext q
          by_cases e5 : q = 5
          · subst e5; rfl
          by_cases e6 : q = 6
          · subst e6; rfl
          by_cases e7 : q = 7
          · subst e7; rfl
          simp only [va_up, if_neg e5, if_neg e6, if_neg e7])]
      refine V_aload0 eX2_factor_43 rfl ?_
      refine V_dup rfl eX2_factor_44 ?_
      refine M_gi mb (Or.inl rfl) (show _ = (nI op) from rfl) eX2_factor_45 fl_X2_116_2 ?_
      refine V_iconst (v := 1) (by decide) eX2_factor_48 ?_
      refine V_iadd eX2_factor_49 ?_
      refine M_pi mb (Or.inl rfl) rfl eX2_factor_50 fl_X2_116_2 ?_
      rw [show ((nI op) + (1 : Int32)) = nI (op + 1) from (zadd rfl rfl)]
      rw [ms_extF (show va_up (va_up (va_up (va_up F 5 (nI sp)) 6 (0 : Int32)) 7 (nI op)) 7 (nI (op + 1)) = (va_up (va_up (va_up F 5 (nI sp)) 6 (0 : Int32)) 7 (nI (op + 1))) from by
          funext q
          by_cases e5 : q = 5
          · subst e5; rfl
          by_cases e6 : q = 6
          · subst e6; rfl
          by_cases e7 : q = 7
          · subst e7; rfl
          simp only [va_up, if_neg e5, if_neg e6, if_neg e7])]
      refine V_aload0 eX2_factor_53 rfl ?_
      refine V_dup rfl eX2_factor_54 ?_
      refine M_gi mb (Or.inl rfl) (show _ = (nI sp) from rfl) eX2_factor_55 fl_X2_75_2 ?_
      refine V_aload0 eX2_factor_58 rfl ?_
      refine M_gi mb (Or.inr rfl) (show _ = (0 : Int32) from rfl) eX2_factor_59 fl_X2_81_2 ?_
      refine V_ifeq eX2_factor_62 (fun c62 => ?_) (fun c62 => absurd c62 (by decide))
      refine V_iconst (v := 1) (by decide) eX2_factor_69 ?_
      refine V_iadd eX2_factor_70 ?_
      refine M_pi mb (Or.inl rfl) rfl eX2_factor_71 fl_X2_75_2 ?_
      rw [show ((nI sp) + (1 : Int32)) = nI (sp + 1) from (zadd rfl rfl)]
      rw [ms_extF (show va_up (va_up (va_up (va_up F 5 (nI sp)) 6 (0 : Int32)) 7 (nI (op + 1))) 5 (nI (sp + 1)) = (va_up (va_up (va_up F 5 (nI (sp + 1))) 6 (0 : Int32)) 7 (nI (op + 1))) from by
          funext q
          by_cases e5 : q = 5
          · subst e5; rfl
          by_cases e6 : q = 6
          · subst e6; rfl
          by_cases e7 : q = 7
          · subst e7; rfl
          simp only [va_up, if_neg e5, if_neg e6, if_neg e7])]
      refine V_aload0 eX2_factor_74 rfl ?_
      refine M_gi mb (Or.inr rfl) (show _ = (0 : Int32) from rfl) eX2_factor_75 fl_X2_81_2 ?_
      refine V_ifeq eX2_factor_78 (fun c78 => ?_) (fun c78 => absurd c78 (by decide))
      refine V_iload1 eX2_factor_85 ?_
      refine V_bipush (v := 33) (by decide) eX2_factor_86 ?_
      refine V_if_icmpne eX2_factor_88 (fun c88 => absurd c17 c88) (fun c88 => ?_)
      refine V_aload0 eX2_factor_91 rfl ?_
      refine M_call mb eX2_factor_92 lmX2_factor q2075 q2077 rfl qs60 (IHf hne (sp := (sp + 1)) (by omega) (F := (va_up (va_up (va_up F 5 (nI (sp + 1))) 6 (0 : Int32)) 7 (nI (op + 1)))) hF4 (show _ = nI (sp + 1) from rfl) (show _ = 0 from rfl) (show _ = nI (op + 1) from rfl)) (zblt (by omega)) rfl rfl rfl ?_
      rw [ms_extF (show (va_up (va_up (va_up (va_up (va_up (va_up F 5 (nI (sp + 1))) 6 (0 : Int32)) 7 (nI (op + 1))) 5 (rf (sp + 1)).2.1) 6 (rf (sp + 1)).2.2) 7 (nI (op + 1))) = (va_up (va_up (va_up F 5 (rf (sp + 1)).2.1) 6 (rf (sp + 1)).2.2) 7 (nI (op + 1))) from by
          funext q
          by_cases e5 : q = 5
          · subst e5; rfl
          by_cases e6 : q = 6
          · subst e6; rfl
          by_cases e7 : q = 7
          · subst e7; rfl
          simp only [va_up, if_neg e5, if_neg e6, if_neg e7])]
      obtain ⟨s1, hs1, hs1a, hs1b, hs1w, hs1v⟩ := hrf (sp + 1) (by omega)
      have hs1c : ((rf (sp + 1)).2.1).toNatClampNeg = s1 := by rw [hs1]; exact nI_clamp (by omega)
      rw [hs1]
      refine V_ifne eX2_factor_95 (fun c95 => ?_) (fun c95 => ?_)
      · refine V_iconst (v := 0) (by decide) eX2_factor_102 ?_
        refine V_goto eX2_factor_103 ?_
        refine V_istore2 rfl eX2_factor_110 rfl ?_
        refine V_iload1 eX2_factor_111 ?_
        refine V_bipush (v := 40) (by decide) eX2_factor_112 ?_
        refine V_if_icmpne eX2_factor_114 (fun c114 => ?_) (fun c114 => ?_)
        · refine V_aload0 eX2_factor_123 rfl ?_
          refine V_dup rfl eX2_factor_124 ?_
          refine M_gi mb (Or.inl rfl) (show _ = (nI (op + 1)) from rfl) eX2_factor_125 fl_X2_116_2 ?_
          refine V_iconst (v := 1) (by decide) eX2_factor_128 ?_
          refine V_isub eX2_factor_129 ?_
          refine M_pi mb (Or.inl rfl) rfl eX2_factor_130 fl_X2_116_2 ?_
          rw [show ((nI (op + 1)) - (1 : Int32)) = nI op from (zsub1 rfl)]
          rw [ms_extF (show va_up (va_up (va_up (va_up F 5 (nI s1)) 6 (rf (sp + 1)).2.2) 7 (nI (op + 1))) 7 (nI op) = (va_up (va_up (va_up F 5 (nI s1)) 6 (rf (sp + 1)).2.2) 7 (nI op)) from by
              funext q
              by_cases e5 : q = 5
              · subst e5; rfl
              by_cases e6 : q = 6
              · subst e6; rfl
              by_cases e7 : q = 7
              · subst e7; rfl
              simp only [va_up, if_neg e5, if_neg e6, if_neg e7])]
          refine V_iload2 eX2_factor_133 ?_
          have hE : ((0 : Int32), (nI s1), (rf (sp + 1)).2.2) = o_factorS S A F a sp ln rf rs op := by simp only [o_factorS, hs1c, if_pos c17, if_neg c32, if_neg c95, if_neg c114]
          exact V_zreturn eX2_factor_134 rfl (by decide) (by rw [← hE]; exact ⟨rfl, rfl⟩)
        · refine V_aload0 eX2_factor_117 rfl ?_
          refine V_bipush (v := 41) (by decide) eX2_factor_118 ?_
          refine M_callU mb eX2_factor_120 lmX2_must q2079 q2081 rfl qs61 (c_must mb (F := (va_up (va_up (va_up F 5 (nI s1)) 6 (rf (sp + 1)).2.2) 7 (nI (op + 1)))) (41 : Int32) (a := a) (sp := s1) (ln := ln) hF4 ha (show _ = nI s1 from rfl) (by omega) hln hln4 (by decide)) (zblt (by omega)) rfl rfl rfl ?_
          rw [ms_extF (show (va_up (va_up (va_up (va_up (va_up F 5 (nI s1)) 6 (rf (sp + 1)).2.2) 7 (nI (op + 1))) 5 (o_must S (va_up (va_up (va_up F 5 (nI s1)) 6 (rf (sp + 1)).2.2) 7 (nI (op + 1))) a s1 ln (41 : Int32)).1) 6 (o_must S (va_up (va_up (va_up F 5 (nI s1)) 6 (rf (sp + 1)).2.2) 7 (nI (op + 1))) a s1 ln (41 : Int32)).2) = (va_up (va_up (va_up F 5 (o_must S (va_up (va_up (va_up F 5 (nI s1)) 6 (rf (sp + 1)).2.2) 7 (nI (op + 1))) a s1 ln (41 : Int32)).1) 6 (o_must S (va_up (va_up (va_up F 5 (nI s1)) 6 (rf (sp + 1)).2.2) 7 (nI (op + 1))) a s1 ln (41 : Int32)).2) 7 (nI (op + 1))) from by
              funext q
              by_cases e5 : q = 5
              · subst e5; rfl
              by_cases e6 : q = 6
              · subst e6; rfl
              by_cases e7 : q = 7
              · subst e7; rfl
              simp only [va_up, if_neg e5, if_neg e6, if_neg e7])]
          obtain ⟨s2, hs2, hs2a, hs2b, hs2w, hs2v⟩ := must_ok (S := S) (F := (va_up (va_up (va_up F 5 (nI s1)) 6 (rf (sp + 1)).2.2) 7 (nI (op + 1)))) (a := a) (sp := s1) (ln := ln) (c := (41 : Int32)) (by omega) hln4 (by decide)
          have hs2c : ((o_must S (va_up (va_up (va_up F 5 (nI s1)) 6 (rf (sp + 1)).2.2) 7 (nI (op + 1))) a s1 ln (41 : Int32)).1).toNatClampNeg = s2 := by rw [hs2]; exact nI_clamp (by omega)
          rw [hs2]
          refine V_aload0 eX2_factor_123 rfl ?_
          refine V_dup rfl eX2_factor_124 ?_
          refine M_gi mb (Or.inl rfl) (show _ = (nI (op + 1)) from rfl) eX2_factor_125 fl_X2_116_2 ?_
          refine V_iconst (v := 1) (by decide) eX2_factor_128 ?_
          refine V_isub eX2_factor_129 ?_
          refine M_pi mb (Or.inl rfl) rfl eX2_factor_130 fl_X2_116_2 ?_
          rw [show ((nI (op + 1)) - (1 : Int32)) = nI op from (zsub1 rfl)]
          rw [ms_extF (show va_up (va_up (va_up (va_up F 5 (nI s2)) 6 (o_must S (va_up (va_up (va_up F 5 (nI s1)) 6 (rf (sp + 1)).2.2) 7 (nI (op + 1))) a s1 ln (41 : Int32)).2) 7 (nI (op + 1))) 7 (nI op) = (va_up (va_up (va_up F 5 (nI s2)) 6 (o_must S (va_up (va_up (va_up F 5 (nI s1)) 6 (rf (sp + 1)).2.2) 7 (nI (op + 1))) a s1 ln (41 : Int32)).2) 7 (nI op)) from by
              funext q
              by_cases e5 : q = 5
              · subst e5; rfl
              by_cases e6 : q = 6
              · subst e6; rfl
              by_cases e7 : q = 7
              · subst e7; rfl
              simp only [va_up, if_neg e5, if_neg e6, if_neg e7])]
          refine V_iload2 eX2_factor_133 ?_
          have hE : ((0 : Int32), (nI s2), (o_must S (va_up (va_up (va_up F 5 (nI s1)) 6 (rf (sp + 1)).2.2) 7 (nI (op + 1))) a s1 ln (41 : Int32)).2) = o_factorS S A F a sp ln rf rs op := by simp only [o_factorS, hs1c, hs2c, if_pos c17, if_neg c32, if_neg c95, if_pos c114]
          exact V_zreturn eX2_factor_134 rfl (by decide) (by rw [← hE]; exact ⟨rfl, rfl⟩)
      · refine V_iconst (v := 1) (by decide) eX2_factor_98 ?_
        refine V_goto eX2_factor_99 ?_
        refine V_istore2 rfl eX2_factor_110 rfl ?_
        refine V_iload1 eX2_factor_111 ?_
        refine V_bipush (v := 40) (by decide) eX2_factor_112 ?_
        refine V_if_icmpne eX2_factor_114 (fun c114 => ?_) (fun c114 => ?_)
        · refine V_aload0 eX2_factor_123 rfl ?_
          refine V_dup rfl eX2_factor_124 ?_
          refine M_gi mb (Or.inl rfl) (show _ = (nI (op + 1)) from rfl) eX2_factor_125 fl_X2_116_2 ?_
          refine V_iconst (v := 1) (by decide) eX2_factor_128 ?_
          refine V_isub eX2_factor_129 ?_
          refine M_pi mb (Or.inl rfl) rfl eX2_factor_130 fl_X2_116_2 ?_
          rw [show ((nI (op + 1)) - (1 : Int32)) = nI op from (zsub1 rfl)]
          rw [ms_extF (show va_up (va_up (va_up (va_up F 5 (nI s1)) 6 (rf (sp + 1)).2.2) 7 (nI (op + 1))) 7 (nI op) = (va_up (va_up (va_up F 5 (nI s1)) 6 (rf (sp + 1)).2.2) 7 (nI op)) from by
              funext q
              by_cases e5 : q = 5
              · subst e5; rfl
              by_cases e6 : q = 6
              · subst e6; rfl
              by_cases e7 : q = 7
              · subst e7; rfl
              simp only [va_up, if_neg e5, if_neg e6, if_neg e7])]
          refine V_iload2 eX2_factor_133 ?_
          have hE : ((1 : Int32), (nI s1), (rf (sp + 1)).2.2) = o_factorS S A F a sp ln rf rs op := by simp only [o_factorS, hs1c, if_pos c17, if_neg c32, if_pos c95, if_neg c114]
          exact V_zreturn eX2_factor_134 rfl (by decide) (by rw [← hE]; exact ⟨rfl, rfl⟩)
        · refine V_aload0 eX2_factor_117 rfl ?_
          refine V_bipush (v := 41) (by decide) eX2_factor_118 ?_
          refine M_callU mb eX2_factor_120 lmX2_must q2079 q2081 rfl qs61 (c_must mb (F := (va_up (va_up (va_up F 5 (nI s1)) 6 (rf (sp + 1)).2.2) 7 (nI (op + 1)))) (41 : Int32) (a := a) (sp := s1) (ln := ln) hF4 ha (show _ = nI s1 from rfl) (by omega) hln hln4 (by decide)) (zblt (by omega)) rfl rfl rfl ?_
          rw [ms_extF (show (va_up (va_up (va_up (va_up (va_up F 5 (nI s1)) 6 (rf (sp + 1)).2.2) 7 (nI (op + 1))) 5 (o_must S (va_up (va_up (va_up F 5 (nI s1)) 6 (rf (sp + 1)).2.2) 7 (nI (op + 1))) a s1 ln (41 : Int32)).1) 6 (o_must S (va_up (va_up (va_up F 5 (nI s1)) 6 (rf (sp + 1)).2.2) 7 (nI (op + 1))) a s1 ln (41 : Int32)).2) = (va_up (va_up (va_up F 5 (o_must S (va_up (va_up (va_up F 5 (nI s1)) 6 (rf (sp + 1)).2.2) 7 (nI (op + 1))) a s1 ln (41 : Int32)).1) 6 (o_must S (va_up (va_up (va_up F 5 (nI s1)) 6 (rf (sp + 1)).2.2) 7 (nI (op + 1))) a s1 ln (41 : Int32)).2) 7 (nI (op + 1))) from by
              funext q
              by_cases e5 : q = 5
              · subst e5; rfl
              by_cases e6 : q = 6
              · subst e6; rfl
              by_cases e7 : q = 7
              · subst e7; rfl
              simp only [va_up, if_neg e5, if_neg e6, if_neg e7])]
          obtain ⟨s3, hs3, hs3a, hs3b, hs3w, hs3v⟩ := must_ok (S := S) (F := (va_up (va_up (va_up F 5 (nI s1)) 6 (rf (sp + 1)).2.2) 7 (nI (op + 1)))) (a := a) (sp := s1) (ln := ln) (c := (41 : Int32)) (by omega) hln4 (by decide)
          have hs3c : ((o_must S (va_up (va_up (va_up F 5 (nI s1)) 6 (rf (sp + 1)).2.2) 7 (nI (op + 1))) a s1 ln (41 : Int32)).1).toNatClampNeg = s3 := by rw [hs3]; exact nI_clamp (by omega)
          rw [hs3]
          refine V_aload0 eX2_factor_123 rfl ?_
          refine V_dup rfl eX2_factor_124 ?_
          refine M_gi mb (Or.inl rfl) (show _ = (nI (op + 1)) from rfl) eX2_factor_125 fl_X2_116_2 ?_
          refine V_iconst (v := 1) (by decide) eX2_factor_128 ?_
          refine V_isub eX2_factor_129 ?_
          refine M_pi mb (Or.inl rfl) rfl eX2_factor_130 fl_X2_116_2 ?_
          rw [show ((nI (op + 1)) - (1 : Int32)) = nI op from (zsub1 rfl)]
          rw [ms_extF (show va_up (va_up (va_up (va_up F 5 (nI s3)) 6 (o_must S (va_up (va_up (va_up F 5 (nI s1)) 6 (rf (sp + 1)).2.2) 7 (nI (op + 1))) a s1 ln (41 : Int32)).2) 7 (nI (op + 1))) 7 (nI op) = (va_up (va_up (va_up F 5 (nI s3)) 6 (o_must S (va_up (va_up (va_up F 5 (nI s1)) 6 (rf (sp + 1)).2.2) 7 (nI (op + 1))) a s1 ln (41 : Int32)).2) 7 (nI op)) from by
              funext q
              by_cases e5 : q = 5
              · subst e5; rfl
              by_cases e6 : q = 6
              · subst e6; rfl
              by_cases e7 : q = 7
              · subst e7; rfl
              simp only [va_up, if_neg e5, if_neg e6, if_neg e7])]
          refine V_iload2 eX2_factor_133 ?_
          have hE : ((1 : Int32), (nI s3), (o_must S (va_up (va_up (va_up F 5 (nI s1)) 6 (rf (sp + 1)).2.2) 7 (nI (op + 1))) a s1 ln (41 : Int32)).2) = o_factorS S A F a sp ln rf rs op := by simp only [o_factorS, hs1c, hs3c, if_pos c17, if_neg c32, if_pos c95, if_pos c114]
          exact V_zreturn eX2_factor_134 rfl (by decide) (by rw [← hE]; exact ⟨rfl, rfl⟩)
    · refine V_iconst (v := 1) (by decide) eX2_factor_35 ?_
      refine V_goto eX2_factor_36 ?_
      refine M_pz mb (Or.inl rfl) rfl (by decide) eX2_factor_40 fl_X2_81_2 ?_
      rw [ms_extF (show va_up (va_up (va_up (va_up F 5 (nI sp)) 6 (0 : Int32)) 7 (nI op)) 6 (1 : Int32) = (va_up (va_up (va_up F 5 (nI sp)) 6 (1 : Int32)) 7 (nI op)) from by
          funext q
          by_cases e5 : q = 5
          · subst e5; rfl
          by_cases e6 : q = 6
          · subst e6; rfl
          by_cases e7 : q = 7
          · subst e7; rfl
          simp only [va_up, if_neg e5, if_neg e6, if_neg e7])]
      refine V_aload0 eX2_factor_43 rfl ?_
      refine V_dup rfl eX2_factor_44 ?_
      refine M_gi mb (Or.inl rfl) (show _ = (nI op) from rfl) eX2_factor_45 fl_X2_116_2 ?_
      refine V_iconst (v := 1) (by decide) eX2_factor_48 ?_
      refine V_iadd eX2_factor_49 ?_
      refine M_pi mb (Or.inl rfl) rfl eX2_factor_50 fl_X2_116_2 ?_
      rw [show ((nI op) + (1 : Int32)) = nI (op + 1) from (zadd rfl rfl)]
      rw [ms_extF (show va_up (va_up (va_up (va_up F 5 (nI sp)) 6 (1 : Int32)) 7 (nI op)) 7 (nI (op + 1)) = (va_up (va_up (va_up F 5 (nI sp)) 6 (1 : Int32)) 7 (nI (op + 1))) from by
          funext q
          by_cases e5 : q = 5
          · subst e5; rfl
          by_cases e6 : q = 6
          · subst e6; rfl
          by_cases e7 : q = 7
          · subst e7; rfl
          simp only [va_up, if_neg e5, if_neg e6, if_neg e7])]
      refine V_aload0 eX2_factor_53 rfl ?_
      refine V_dup rfl eX2_factor_54 ?_
      refine M_gi mb (Or.inl rfl) (show _ = (nI sp) from rfl) eX2_factor_55 fl_X2_75_2 ?_
      refine V_aload0 eX2_factor_58 rfl ?_
      refine M_gi mb (Or.inr rfl) (show _ = (1 : Int32) from rfl) eX2_factor_59 fl_X2_81_2 ?_
      refine V_ifeq eX2_factor_62 (fun c62 => absurd c62 (by decide)) (fun c62 => ?_)
      refine V_iconst (v := 0) (by decide) eX2_factor_65 ?_
      refine V_goto eX2_factor_66 ?_
      refine V_iadd eX2_factor_70 ?_
      refine M_pi mb (Or.inl rfl) rfl eX2_factor_71 fl_X2_75_2 ?_
      rw [show ((nI sp) + (0 : Int32)) = nI (sp + 0) from (zadd rfl rfl)]
      rw [ms_extF (show va_up (va_up (va_up (va_up F 5 (nI sp)) 6 (1 : Int32)) 7 (nI (op + 1))) 5 (nI (sp + 0)) = (va_up (va_up (va_up F 5 (nI (sp + 0))) 6 (1 : Int32)) 7 (nI (op + 1))) from by
          funext q
          by_cases e5 : q = 5
          · subst e5; rfl
          by_cases e6 : q = 6
          · subst e6; rfl
          by_cases e7 : q = 7
          · subst e7; rfl
          simp only [va_up, if_neg e5, if_neg e6, if_neg e7])]
      refine V_aload0 eX2_factor_74 rfl ?_
      refine M_gi mb (Or.inr rfl) (show _ = (1 : Int32) from rfl) eX2_factor_75 fl_X2_81_2 ?_
      refine V_ifeq eX2_factor_78 (fun c78 => absurd c78 (by decide)) (fun c78 => ?_)
      refine V_iconst (v := 0) (by decide) eX2_factor_81 ?_
      refine V_goto eX2_factor_82 ?_
      refine V_istore2 rfl eX2_factor_110 rfl ?_
      refine V_iload1 eX2_factor_111 ?_
      refine V_bipush (v := 40) (by decide) eX2_factor_112 ?_
      refine V_if_icmpne eX2_factor_114 (fun c114 => ?_) (fun c114 => ?_)
      · refine V_aload0 eX2_factor_123 rfl ?_
        refine V_dup rfl eX2_factor_124 ?_
        refine M_gi mb (Or.inl rfl) (show _ = (nI (op + 1)) from rfl) eX2_factor_125 fl_X2_116_2 ?_
        refine V_iconst (v := 1) (by decide) eX2_factor_128 ?_
        refine V_isub eX2_factor_129 ?_
        refine M_pi mb (Or.inl rfl) rfl eX2_factor_130 fl_X2_116_2 ?_
        rw [show ((nI (op + 1)) - (1 : Int32)) = nI op from (zsub1 rfl)]
        rw [ms_extF (show va_up (va_up (va_up (va_up F 5 (nI (sp + 0))) 6 (1 : Int32)) 7 (nI (op + 1))) 7 (nI op) = (va_up (va_up (va_up F 5 (nI (sp + 0))) 6 (1 : Int32)) 7 (nI op)) from by
            funext q
            by_cases e5 : q = 5
            · subst e5; rfl
            by_cases e6 : q = 6
            · subst e6; rfl
            by_cases e7 : q = 7
            · subst e7; rfl
            simp only [va_up, if_neg e5, if_neg e6, if_neg e7])]
        refine V_iload2 eX2_factor_133 ?_
        have hE : ((0 : Int32), (nI (sp + 0)), (1 : Int32)) = o_factorS S A F a sp ln rf rs op := by simp only [o_factorS, if_pos c17, if_pos c32, if_neg c114]
        exact V_zreturn eX2_factor_134 rfl (by decide) (by rw [← hE]; exact ⟨rfl, rfl⟩)
      · refine V_aload0 eX2_factor_117 rfl ?_
        refine V_bipush (v := 41) (by decide) eX2_factor_118 ?_
        refine M_callU mb eX2_factor_120 lmX2_must q2079 q2081 rfl qs61 (c_must mb (F := (va_up (va_up (va_up F 5 (nI (sp + 0))) 6 (1 : Int32)) 7 (nI (op + 1)))) (41 : Int32) (a := a) (sp := (sp + 0)) (ln := ln) hF4 ha (show _ = nI (sp + 0) from rfl) (by omega) hln hln4 (by decide)) (zblt (by omega)) rfl rfl rfl ?_
        rw [ms_extF (show (va_up (va_up (va_up (va_up (va_up F 5 (nI (sp + 0))) 6 (1 : Int32)) 7 (nI (op + 1))) 5 (o_must S (va_up (va_up (va_up F 5 (nI (sp + 0))) 6 (1 : Int32)) 7 (nI (op + 1))) a (sp + 0) ln (41 : Int32)).1) 6 (o_must S (va_up (va_up (va_up F 5 (nI (sp + 0))) 6 (1 : Int32)) 7 (nI (op + 1))) a (sp + 0) ln (41 : Int32)).2) = (va_up (va_up (va_up F 5 (o_must S (va_up (va_up (va_up F 5 (nI (sp + 0))) 6 (1 : Int32)) 7 (nI (op + 1))) a (sp + 0) ln (41 : Int32)).1) 6 (o_must S (va_up (va_up (va_up F 5 (nI (sp + 0))) 6 (1 : Int32)) 7 (nI (op + 1))) a (sp + 0) ln (41 : Int32)).2) 7 (nI (op + 1))) from by
            funext q
            by_cases e5 : q = 5
            · subst e5; rfl
            by_cases e6 : q = 6
            · subst e6; rfl
            by_cases e7 : q = 7
            · subst e7; rfl
            simp only [va_up, if_neg e5, if_neg e6, if_neg e7])]
        obtain ⟨s4, hs4, hs4a, hs4b, hs4w, hs4v⟩ := must_ok (S := S) (F := (va_up (va_up (va_up F 5 (nI (sp + 0))) 6 (1 : Int32)) 7 (nI (op + 1)))) (a := a) (sp := (sp + 0)) (ln := ln) (c := (41 : Int32)) (by omega) hln4 (by decide)
        have hs4c : ((o_must S (va_up (va_up (va_up F 5 (nI (sp + 0))) 6 (1 : Int32)) 7 (nI (op + 1))) a (sp + 0) ln (41 : Int32)).1).toNatClampNeg = s4 := by rw [hs4]; exact nI_clamp (by omega)
        rw [hs4]
        refine V_aload0 eX2_factor_123 rfl ?_
        refine V_dup rfl eX2_factor_124 ?_
        refine M_gi mb (Or.inl rfl) (show _ = (nI (op + 1)) from rfl) eX2_factor_125 fl_X2_116_2 ?_
        refine V_iconst (v := 1) (by decide) eX2_factor_128 ?_
        refine V_isub eX2_factor_129 ?_
        refine M_pi mb (Or.inl rfl) rfl eX2_factor_130 fl_X2_116_2 ?_
        rw [show ((nI (op + 1)) - (1 : Int32)) = nI op from (zsub1 rfl)]
        rw [ms_extF (show va_up (va_up (va_up (va_up F 5 (nI s4)) 6 (o_must S (va_up (va_up (va_up F 5 (nI (sp + 0))) 6 (1 : Int32)) 7 (nI (op + 1))) a (sp + 0) ln (41 : Int32)).2) 7 (nI (op + 1))) 7 (nI op) = (va_up (va_up (va_up F 5 (nI s4)) 6 (o_must S (va_up (va_up (va_up F 5 (nI (sp + 0))) 6 (1 : Int32)) 7 (nI (op + 1))) a (sp + 0) ln (41 : Int32)).2) 7 (nI op)) from by
            funext q
            by_cases e5 : q = 5
            · subst e5; rfl
            by_cases e6 : q = 6
            · subst e6; rfl
            by_cases e7 : q = 7
            · subst e7; rfl
            simp only [va_up, if_neg e5, if_neg e6, if_neg e7])]
        refine V_iload2 eX2_factor_133 ?_
        have hE : ((0 : Int32), (nI s4), (o_must S (va_up (va_up (va_up F 5 (nI (sp + 0))) 6 (1 : Int32)) 7 (nI (op + 1))) a (sp + 0) ln (41 : Int32)).2) = o_factorS S A F a sp ln rf rs op := by simp only [o_factorS, hs4c, if_pos c17, if_pos c32, if_pos c114]
        exact V_zreturn eX2_factor_134 rfl (by decide) (by rw [← hE]; exact ⟨rfl, rfl⟩)
  · refine V_iload1 eX2_factor_20 ?_
    refine V_bipush (v := 40) (by decide) eX2_factor_21 ?_
    refine V_if_icmpne eX2_factor_23 (fun c23 => ?_) (fun c23 => ?_)
    · refine V_iload1 eX2_factor_135 ?_
      refine V_bipush (v := 103) (by decide) eX2_factor_136 ?_
      refine V_if_icmpne eX2_factor_138 (fun c138 => ?_) (fun c138 => ?_)
      · have J278 : ∀ (wh : Int32), o_factorS S A F a sp ln rf rs op = D_factorS_278 S A F a sp ln op wh → (wh = -1 ∨ ∃ k, wh = nI k ∧ k < 5) → (¬ wh = -1 → sp < ln) → V w mX2_factor cX2_factor (e + 1) 0 0 (ms h A B (va_up (va_up (va_up F 5 (nI sp)) 6 (0 : Int32)) 7 (nI op)) S) 278 [some (.ref m), none, none, none, none, none] [.int wh] (Rv (.int (o_factorS S A F a sp ln rf rs op).1) (ms h A B (va_up (va_up (va_up F 5 (o_factorS S A F a sp ln rf rs op).2.1) 6 (o_factorS S A F a sp ln rf rs op).2.2) 7 (nI op)) S)) := by
          intro wh hj278 hwh hwl
          refine V_istore2 rfl eX2_factor_278 rfl ?_
          refine V_aload0 eX2_factor_279 rfl ?_
          refine V_iload2 eX2_factor_280 ?_
          refine V_iconst (v := -1) (by decide) eX2_factor_281 ?_
          refine V_if_icmpne eX2_factor_282 (fun c282 => ?_) (fun c282 => ?_)
          · have hlt := hwl c282
            refine V_iconst (v := 0) (by decide) eX2_factor_289 ?_
            refine M_pz mb (Or.inl rfl) rfl (by decide) eX2_factor_290 fl_X2_81_2 ?_
            rw [ms_extF (show va_up (va_up (va_up (va_up F 5 (nI sp)) 6 (0 : Int32)) 7 (nI op)) 6 (0 : Int32) = (va_up (va_up (va_up F 5 (nI sp)) 6 (0 : Int32)) 7 (nI op)) from by
                funext q
                by_cases e5 : q = 5
                · subst e5; rfl
                by_cases e6 : q = 6
                · subst e6; rfl
                by_cases e7 : q = 7
                · subst e7; rfl
                simp only [va_up, if_neg e5, if_neg e6, if_neg e7])]
            refine V_aload0 eX2_factor_293 rfl ?_
            refine V_dup rfl eX2_factor_294 ?_
            refine M_gi mb (Or.inl rfl) (show _ = (nI sp) from rfl) eX2_factor_295 fl_X2_75_2 ?_
            refine V_aload0 eX2_factor_298 rfl ?_
            refine M_gi mb (Or.inr rfl) (show _ = (0 : Int32) from rfl) eX2_factor_299 fl_X2_81_2 ?_
            refine V_ifeq eX2_factor_302 (fun c302 => ?_) (fun c302 => absurd c302 (by decide))
            refine V_iconst (v := 1) (by decide) eX2_factor_309 ?_
            refine V_iadd eX2_factor_310 ?_
            refine M_pi mb (Or.inl rfl) rfl eX2_factor_311 fl_X2_75_2 ?_
            rw [show ((nI sp) + (1 : Int32)) = nI (sp + 1) from (zadd rfl rfl)]
            rw [ms_extF (show va_up (va_up (va_up (va_up F 5 (nI sp)) 6 (0 : Int32)) 7 (nI op)) 5 (nI (sp + 1)) = (va_up (va_up (va_up F 5 (nI (sp + 1))) 6 (0 : Int32)) 7 (nI op)) from by
                funext q
                by_cases e5 : q = 5
                · subst e5; rfl
                by_cases e6 : q = 6
                · subst e6; rfl
                by_cases e7 : q = 7
                · subst e7; rfl
                simp only [va_up, if_neg e5, if_neg e6, if_neg e7])]
            refine V_aload0 eX2_factor_314 rfl ?_
            refine M_call mb eX2_factor_315 lmX2_here q2063 q2065 rfl qs57 (c_here mb (a := a) (sp := (sp + 1)) (ln := ln) hF4 ha (show _ = nI (sp + 1) from rfl) (by omega) hln hln4) (zblt (by omega)) rfl rfl rfl ?_
            refine V_istore3 rfl eX2_factor_318 rfl ?_
            refine V_aload0 eX2_factor_319 rfl ?_
            refine V_aload0 eX2_factor_320 rfl ?_
            refine M_gi mb (Or.inr rfl) (show _ = (0 : Int32) from rfl) eX2_factor_321 fl_X2_81_2 ?_
            refine V_ifne eX2_factor_324 (fun c324 => absurd c324 (by decide)) (fun c324 => ?_)
            refine V_iload3 eX2_factor_327 ?_
            refine V_bipush (v := 60) (by decide) eX2_factor_328 ?_
            refine V_if_icmpeq eX2_factor_330 (fun c330 => ?_) (fun c330 => ?_)
            · have hl3 := here_lt (a := a) (sp := (sp + 1)) (ln := ln) (S := S) (by rw [c330]; decide) (by omega) hln4
              refine V_iconst (v := 0) (by decide) eX2_factor_343 ?_
              refine M_pz mb (Or.inl rfl) rfl (by decide) eX2_factor_344 fl_X2_81_2 ?_
              rw [ms_extF (show va_up (va_up (va_up (va_up F 5 (nI (sp + 1))) 6 (0 : Int32)) 7 (nI op)) 6 (0 : Int32) = (va_up (va_up (va_up F 5 (nI (sp + 1))) 6 (0 : Int32)) 7 (nI op)) from by
                  funext q
                  by_cases e5 : q = 5
                  · subst e5; rfl
                  by_cases e6 : q = 6
                  · subst e6; rfl
                  by_cases e7 : q = 7
                  · subst e7; rfl
                  simp only [va_up, if_neg e5, if_neg e6, if_neg e7])]
              refine V_aload0 eX2_factor_347 rfl ?_
              refine V_dup rfl eX2_factor_348 ?_
              refine M_gi mb (Or.inl rfl) (show _ = (nI (sp + 1)) from rfl) eX2_factor_349 fl_X2_75_2 ?_
              refine V_aload0 eX2_factor_352 rfl ?_
              refine M_gi mb (Or.inr rfl) (show _ = (0 : Int32) from rfl) eX2_factor_353 fl_X2_81_2 ?_
              refine V_ifeq eX2_factor_356 (fun c356 => ?_) (fun c356 => absurd c356 (by decide))
              refine V_iconst (v := 1) (by decide) eX2_factor_363 ?_
              refine V_iadd eX2_factor_364 ?_
              refine M_pi mb (Or.inl rfl) rfl eX2_factor_365 fl_X2_75_2 ?_
              rw [show ((nI (sp + 1)) + (1 : Int32)) = nI ((sp + 1) + 1) from (zadd rfl rfl)]
              rw [ms_extF (show va_up (va_up (va_up (va_up F 5 (nI (sp + 1))) 6 (0 : Int32)) 7 (nI op)) 5 (nI ((sp + 1) + 1)) = (va_up (va_up (va_up F 5 (nI ((sp + 1) + 1))) 6 (0 : Int32)) 7 (nI op)) from by
                  funext q
                  by_cases e5 : q = 5
                  · subst e5; rfl
                  by_cases e6 : q = 6
                  · subst e6; rfl
                  by_cases e7 : q = 7
                  · subst e7; rfl
                  simp only [va_up, if_neg e5, if_neg e6, if_neg e7])]
              refine V_aload0 eX2_factor_368 rfl ?_
              refine M_call mb eX2_factor_369 lmX2_number q2083 q2085 rfl qs62 (c_number mb (F := (va_up (va_up (va_up F 5 (nI ((sp + 1) + 1))) 6 (0 : Int32)) 7 (nI op))) (a := a) (sp := ((sp + 1) + 1)) (ln := ln) hF4 ha (show _ = nI ((sp + 1) + 1) from rfl) (by omega) hln hln4) (zblt (by omega)) rfl rfl rfl ?_
              rw [ms_extF (show (va_up (va_up (va_up (va_up (va_up F 5 (nI ((sp + 1) + 1))) 6 (0 : Int32)) 7 (nI op)) 5 (o_number S (va_up (va_up (va_up F 5 (nI ((sp + 1) + 1))) 6 (0 : Int32)) 7 (nI op)) a ((sp + 1) + 1) ln).2.1) 6 (o_number S (va_up (va_up (va_up F 5 (nI ((sp + 1) + 1))) 6 (0 : Int32)) 7 (nI op)) a ((sp + 1) + 1) ln).2.2) = (va_up (va_up (va_up F 5 (o_number S (va_up (va_up (va_up F 5 (nI ((sp + 1) + 1))) 6 (0 : Int32)) 7 (nI op)) a ((sp + 1) + 1) ln).2.1) 6 (o_number S (va_up (va_up (va_up F 5 (nI ((sp + 1) + 1))) 6 (0 : Int32)) 7 (nI op)) a ((sp + 1) + 1) ln).2.2) 7 (nI op)) from by
                  funext q
                  by_cases e5 : q = 5
                  · subst e5; rfl
                  by_cases e6 : q = 6
                  · subst e6; rfl
                  by_cases e7 : q = 7
                  · subst e7; rfl
                  simp only [va_up, if_neg e5, if_neg e6, if_neg e7])]
              obtain ⟨s5, hs5, hs5a, hs5b, hs5w, hs5v⟩ := num_ok (S := S) (F := (va_up (va_up (va_up F 5 (nI ((sp + 1) + 1))) 6 (0 : Int32)) 7 (nI op))) (a := a) (sp := ((sp + 1) + 1)) (ln := ln) (by omega) hln4
              have hs5c : ((o_number S (va_up (va_up (va_up F 5 (nI ((sp + 1) + 1))) 6 (0 : Int32)) 7 (nI op)) a ((sp + 1) + 1) ln).2.1).toNatClampNeg = s5 := by rw [hs5]; exact nI_clamp (by omega)
              rw [hs5]
              refine V_istore4 rfl eX2_factor_372 rfl ?_
              refine V_aload0 eX2_factor_374 rfl ?_
              refine M_gi mb (Or.inr rfl) (show _ = (o_number S (va_up (va_up (va_up F 5 (nI ((sp + 1) + 1))) 6 (0 : Int32)) 7 (nI op)) a ((sp + 1) + 1) ln).2.2 from rfl) eX2_factor_375 fl_X2_81_2 ?_
              refine V_ifeq eX2_factor_378 (fun c378 => ?_) (fun c378 => ?_)
              · obtain ⟨k, hk, hk5⟩ := hwh.resolve_left c282
                have hkc : wh.toNatClampNeg = k := by rw [hk]; exact nI_clamp (by omega)
                refine V_aload0 eX2_factor_385 rfl ?_
                refine M_ga mb rfl eX2_factor_386 fl_X2_17_2 ?_
                refine V_iload2 eX2_factor_389 ?_
                refine M_al (j := 8) (n := k) mb rfl (by decide) hk (by show _ < _; first | decide | (simp only [mlen]; omega)) (show _ = (A 8 k) from rfl) eX2_factor_390 ?_
                refine V_istore5 rfl eX2_factor_391 rfl ?_
                refine V_iload3 eX2_factor_393 ?_
                refine V_bipush (v := 60) (by decide) eX2_factor_394 ?_
                refine V_if_icmpne eX2_factor_396 (fun c396 => absurd c330 c396) (fun c396 => ?_)
                refine V_iload5 eX2_factor_399 ?_
                refine V_iload4 eX2_factor_401 ?_
                refine V_if_icmpge eX2_factor_403 (fun c403 => ?_) (fun c403 => ?_)
                · refine V_iconst (v := 0) (by decide) eX2_factor_410 ?_
                  refine V_goto eX2_factor_411 ?_
                  have hE : ((0 : Int32), (nI s5), (o_number S (va_up (va_up (va_up F 5 (nI ((sp + 1) + 1))) 6 (0 : Int32)) 7 (nI op)) a ((sp + 1) + 1) ln).2.2) = o_factorS S A F a sp ln rf rs op := by rw [hj278]; simp only [D_factorS_278, hs5c, hkc, if_neg c282, if_pos c330, if_pos c378, if_pos c403]
                  exact V_zreturn eX2_factor_426 rfl (by decide) (by rw [← hE]; exact ⟨rfl, rfl⟩)
                · refine V_iconst (v := 1) (by decide) eX2_factor_406 ?_
                  refine V_goto eX2_factor_407 ?_
                  have hE : ((1 : Int32), (nI s5), (o_number S (va_up (va_up (va_up F 5 (nI ((sp + 1) + 1))) 6 (0 : Int32)) 7 (nI op)) a ((sp + 1) + 1) ln).2.2) = o_factorS S A F a sp ln rf rs op := by rw [hj278]; simp only [D_factorS_278, hs5c, hkc, if_neg c282, if_pos c330, if_pos c378, if_neg c403]
                  exact V_zreturn eX2_factor_426 rfl (by decide) (by rw [← hE]; exact ⟨rfl, rfl⟩)
              · refine V_iconst (v := 0) (by decide) eX2_factor_381 ?_
                refine V_goto eX2_factor_382 ?_
                refine V_istore5 rfl eX2_factor_391 rfl ?_
                refine V_iload3 eX2_factor_393 ?_
                refine V_bipush (v := 60) (by decide) eX2_factor_394 ?_
                refine V_if_icmpne eX2_factor_396 (fun c396 => absurd c330 c396) (fun c396 => ?_)
                refine V_iload5 eX2_factor_399 ?_
                refine V_iload4 eX2_factor_401 ?_
                refine V_if_icmpge eX2_factor_403 (fun c403 => ?_) (fun c403 => ?_)
                · refine V_iconst (v := 0) (by decide) eX2_factor_410 ?_
                  refine V_goto eX2_factor_411 ?_
                  have hE : ((0 : Int32), (nI s5), (o_number S (va_up (va_up (va_up F 5 (nI ((sp + 1) + 1))) 6 (0 : Int32)) 7 (nI op)) a ((sp + 1) + 1) ln).2.2) = o_factorS S A F a sp ln rf rs op := by rw [hj278]; simp only [D_factorS_278, hs5c, if_neg c282, if_pos c330, if_neg c378, if_pos c403]
                  exact V_zreturn eX2_factor_426 rfl (by decide) (by rw [← hE]; exact ⟨rfl, rfl⟩)
                · refine V_iconst (v := 1) (by decide) eX2_factor_406 ?_
                  refine V_goto eX2_factor_407 ?_
                  have hE : ((1 : Int32), (nI s5), (o_number S (va_up (va_up (va_up F 5 (nI ((sp + 1) + 1))) 6 (0 : Int32)) 7 (nI op)) a ((sp + 1) + 1) ln).2.2) = o_factorS S A F a sp ln rf rs op := by rw [hj278]; simp only [D_factorS_278, hs5c, if_neg c282, if_pos c330, if_neg c378, if_neg c403]
                  exact V_zreturn eX2_factor_426 rfl (by decide) (by rw [← hE]; exact ⟨rfl, rfl⟩)
            · refine V_iload3 eX2_factor_333 ?_
              refine V_bipush (v := 62) (by decide) eX2_factor_334 ?_
              refine V_if_icmpeq eX2_factor_336 (fun c336 => ?_) (fun c336 => ?_)
              · have hl3 := here_lt (a := a) (sp := (sp + 1)) (ln := ln) (S := S) (by rw [c336]; decide) (by omega) hln4
                refine V_iconst (v := 0) (by decide) eX2_factor_343 ?_
                refine M_pz mb (Or.inl rfl) rfl (by decide) eX2_factor_344 fl_X2_81_2 ?_
                rw [ms_extF (show va_up (va_up (va_up (va_up F 5 (nI (sp + 1))) 6 (0 : Int32)) 7 (nI op)) 6 (0 : Int32) = (va_up (va_up (va_up F 5 (nI (sp + 1))) 6 (0 : Int32)) 7 (nI op)) from by
                    funext q
                    by_cases e5 : q = 5
                    · subst e5; rfl
                    by_cases e6 : q = 6
                    · subst e6; rfl
                    by_cases e7 : q = 7
                    · subst e7; rfl
                    simp only [va_up, if_neg e5, if_neg e6, if_neg e7])]
                refine V_aload0 eX2_factor_347 rfl ?_
                refine V_dup rfl eX2_factor_348 ?_
                refine M_gi mb (Or.inl rfl) (show _ = (nI (sp + 1)) from rfl) eX2_factor_349 fl_X2_75_2 ?_
                refine V_aload0 eX2_factor_352 rfl ?_
                refine M_gi mb (Or.inr rfl) (show _ = (0 : Int32) from rfl) eX2_factor_353 fl_X2_81_2 ?_
                refine V_ifeq eX2_factor_356 (fun c356 => ?_) (fun c356 => absurd c356 (by decide))
                refine V_iconst (v := 1) (by decide) eX2_factor_363 ?_
                refine V_iadd eX2_factor_364 ?_
                refine M_pi mb (Or.inl rfl) rfl eX2_factor_365 fl_X2_75_2 ?_
                rw [show ((nI (sp + 1)) + (1 : Int32)) = nI ((sp + 1) + 1) from (zadd rfl rfl)]
                rw [ms_extF (show va_up (va_up (va_up (va_up F 5 (nI (sp + 1))) 6 (0 : Int32)) 7 (nI op)) 5 (nI ((sp + 1) + 1)) = (va_up (va_up (va_up F 5 (nI ((sp + 1) + 1))) 6 (0 : Int32)) 7 (nI op)) from by
                    funext q
                    by_cases e5 : q = 5
                    · subst e5; rfl
                    by_cases e6 : q = 6
                    · subst e6; rfl
                    by_cases e7 : q = 7
                    · subst e7; rfl
                    simp only [va_up, if_neg e5, if_neg e6, if_neg e7])]
                refine V_aload0 eX2_factor_368 rfl ?_
                refine M_call mb eX2_factor_369 lmX2_number q2083 q2085 rfl qs62 (c_number mb (F := (va_up (va_up (va_up F 5 (nI ((sp + 1) + 1))) 6 (0 : Int32)) 7 (nI op))) (a := a) (sp := ((sp + 1) + 1)) (ln := ln) hF4 ha (show _ = nI ((sp + 1) + 1) from rfl) (by omega) hln hln4) (zblt (by omega)) rfl rfl rfl ?_
                rw [ms_extF (show (va_up (va_up (va_up (va_up (va_up F 5 (nI ((sp + 1) + 1))) 6 (0 : Int32)) 7 (nI op)) 5 (o_number S (va_up (va_up (va_up F 5 (nI ((sp + 1) + 1))) 6 (0 : Int32)) 7 (nI op)) a ((sp + 1) + 1) ln).2.1) 6 (o_number S (va_up (va_up (va_up F 5 (nI ((sp + 1) + 1))) 6 (0 : Int32)) 7 (nI op)) a ((sp + 1) + 1) ln).2.2) = (va_up (va_up (va_up F 5 (o_number S (va_up (va_up (va_up F 5 (nI ((sp + 1) + 1))) 6 (0 : Int32)) 7 (nI op)) a ((sp + 1) + 1) ln).2.1) 6 (o_number S (va_up (va_up (va_up F 5 (nI ((sp + 1) + 1))) 6 (0 : Int32)) 7 (nI op)) a ((sp + 1) + 1) ln).2.2) 7 (nI op)) from by
                    funext q
                    by_cases e5 : q = 5
                    · subst e5; rfl
                    by_cases e6 : q = 6
                    · subst e6; rfl
                    by_cases e7 : q = 7
                    · subst e7; rfl
                    simp only [va_up, if_neg e5, if_neg e6, if_neg e7])]
                obtain ⟨s6, hs6, hs6a, hs6b, hs6w, hs6v⟩ := num_ok (S := S) (F := (va_up (va_up (va_up F 5 (nI ((sp + 1) + 1))) 6 (0 : Int32)) 7 (nI op))) (a := a) (sp := ((sp + 1) + 1)) (ln := ln) (by omega) hln4
                have hs6c : ((o_number S (va_up (va_up (va_up F 5 (nI ((sp + 1) + 1))) 6 (0 : Int32)) 7 (nI op)) a ((sp + 1) + 1) ln).2.1).toNatClampNeg = s6 := by rw [hs6]; exact nI_clamp (by omega)
                rw [hs6]
                refine V_istore4 rfl eX2_factor_372 rfl ?_
                refine V_aload0 eX2_factor_374 rfl ?_
                refine M_gi mb (Or.inr rfl) (show _ = (o_number S (va_up (va_up (va_up F 5 (nI ((sp + 1) + 1))) 6 (0 : Int32)) 7 (nI op)) a ((sp + 1) + 1) ln).2.2 from rfl) eX2_factor_375 fl_X2_81_2 ?_
                refine V_ifeq eX2_factor_378 (fun c378 => ?_) (fun c378 => ?_)
                · obtain ⟨k, hk, hk5⟩ := hwh.resolve_left c282
                  have hkc : wh.toNatClampNeg = k := by rw [hk]; exact nI_clamp (by omega)
                  refine V_aload0 eX2_factor_385 rfl ?_
                  refine M_ga mb rfl eX2_factor_386 fl_X2_17_2 ?_
                  refine V_iload2 eX2_factor_389 ?_
                  refine M_al (j := 8) (n := k) mb rfl (by decide) hk (by show _ < _; first | decide | (simp only [mlen]; omega)) (show _ = (A 8 k) from rfl) eX2_factor_390 ?_
                  refine V_istore5 rfl eX2_factor_391 rfl ?_
                  refine V_iload3 eX2_factor_393 ?_
                  refine V_bipush (v := 60) (by decide) eX2_factor_394 ?_
                  refine V_if_icmpne eX2_factor_396 (fun c396 => ?_) (fun c396 => absurd c396 c330)
                  refine V_iload5 eX2_factor_414 ?_
                  refine V_iload4 eX2_factor_416 ?_
                  refine V_if_icmple eX2_factor_418 (fun c418 => ?_) (fun c418 => ?_)
                  · refine V_iconst (v := 0) (by decide) eX2_factor_425 ?_
                    have hE : ((0 : Int32), (nI s6), (o_number S (va_up (va_up (va_up F 5 (nI ((sp + 1) + 1))) 6 (0 : Int32)) 7 (nI op)) a ((sp + 1) + 1) ln).2.2) = o_factorS S A F a sp ln rf rs op := by rw [hj278]; simp only [D_factorS_278, hs6c, hkc, if_neg c282, if_neg c330, if_pos c336, if_pos c378, if_pos c418]
                    exact V_zreturn eX2_factor_426 rfl (by decide) (by rw [← hE]; exact ⟨rfl, rfl⟩)
                  · refine V_iconst (v := 1) (by decide) eX2_factor_421 ?_
                    refine V_goto eX2_factor_422 ?_
                    have hE : ((1 : Int32), (nI s6), (o_number S (va_up (va_up (va_up F 5 (nI ((sp + 1) + 1))) 6 (0 : Int32)) 7 (nI op)) a ((sp + 1) + 1) ln).2.2) = o_factorS S A F a sp ln rf rs op := by rw [hj278]; simp only [D_factorS_278, hs6c, hkc, if_neg c282, if_neg c330, if_pos c336, if_pos c378, if_neg c418]
                    exact V_zreturn eX2_factor_426 rfl (by decide) (by rw [← hE]; exact ⟨rfl, rfl⟩)
                · refine V_iconst (v := 0) (by decide) eX2_factor_381 ?_
                  refine V_goto eX2_factor_382 ?_
                  refine V_istore5 rfl eX2_factor_391 rfl ?_
                  refine V_iload3 eX2_factor_393 ?_
                  refine V_bipush (v := 60) (by decide) eX2_factor_394 ?_
                  refine V_if_icmpne eX2_factor_396 (fun c396 => ?_) (fun c396 => absurd c396 c330)
                  refine V_iload5 eX2_factor_414 ?_
                  refine V_iload4 eX2_factor_416 ?_
                  refine V_if_icmple eX2_factor_418 (fun c418 => ?_) (fun c418 => ?_)
                  · refine V_iconst (v := 0) (by decide) eX2_factor_425 ?_
                    have hE : ((0 : Int32), (nI s6), (o_number S (va_up (va_up (va_up F 5 (nI ((sp + 1) + 1))) 6 (0 : Int32)) 7 (nI op)) a ((sp + 1) + 1) ln).2.2) = o_factorS S A F a sp ln rf rs op := by rw [hj278]; simp only [D_factorS_278, hs6c, if_neg c282, if_neg c330, if_pos c336, if_neg c378, if_pos c418]
                    exact V_zreturn eX2_factor_426 rfl (by decide) (by rw [← hE]; exact ⟨rfl, rfl⟩)
                  · refine V_iconst (v := 1) (by decide) eX2_factor_421 ?_
                    refine V_goto eX2_factor_422 ?_
                    have hE : ((1 : Int32), (nI s6), (o_number S (va_up (va_up (va_up F 5 (nI ((sp + 1) + 1))) 6 (0 : Int32)) 7 (nI op)) a ((sp + 1) + 1) ln).2.2) = o_factorS S A F a sp ln rf rs op := by rw [hj278]; simp only [D_factorS_278, hs6c, if_neg c282, if_neg c330, if_pos c336, if_neg c378, if_neg c418]
                    exact V_zreturn eX2_factor_426 rfl (by decide) (by rw [← hE]; exact ⟨rfl, rfl⟩)
              · refine V_iconst (v := 1) (by decide) eX2_factor_339 ?_
                refine V_goto eX2_factor_340 ?_
                refine M_pz mb (Or.inl rfl) rfl (by decide) eX2_factor_344 fl_X2_81_2 ?_
                rw [ms_extF (show va_up (va_up (va_up (va_up F 5 (nI (sp + 1))) 6 (0 : Int32)) 7 (nI op)) 6 (1 : Int32) = (va_up (va_up (va_up F 5 (nI (sp + 1))) 6 (1 : Int32)) 7 (nI op)) from by
                    funext q
                    by_cases e5 : q = 5
                    · subst e5; rfl
                    by_cases e6 : q = 6
                    · subst e6; rfl
                    by_cases e7 : q = 7
                    · subst e7; rfl
                    simp only [va_up, if_neg e5, if_neg e6, if_neg e7])]
                refine V_aload0 eX2_factor_347 rfl ?_
                refine V_dup rfl eX2_factor_348 ?_
                refine M_gi mb (Or.inl rfl) (show _ = (nI (sp + 1)) from rfl) eX2_factor_349 fl_X2_75_2 ?_
                refine V_aload0 eX2_factor_352 rfl ?_
                refine M_gi mb (Or.inr rfl) (show _ = (1 : Int32) from rfl) eX2_factor_353 fl_X2_81_2 ?_
                refine V_ifeq eX2_factor_356 (fun c356 => absurd c356 (by decide)) (fun c356 => ?_)
                refine V_iconst (v := 0) (by decide) eX2_factor_359 ?_
                refine V_goto eX2_factor_360 ?_
                refine V_iadd eX2_factor_364 ?_
                refine M_pi mb (Or.inl rfl) rfl eX2_factor_365 fl_X2_75_2 ?_
                rw [show ((nI (sp + 1)) + (0 : Int32)) = nI ((sp + 1) + 0) from (zadd rfl rfl)]
                rw [ms_extF (show va_up (va_up (va_up (va_up F 5 (nI (sp + 1))) 6 (1 : Int32)) 7 (nI op)) 5 (nI ((sp + 1) + 0)) = (va_up (va_up (va_up F 5 (nI ((sp + 1) + 0))) 6 (1 : Int32)) 7 (nI op)) from by
                    funext q
                    by_cases e5 : q = 5
                    · subst e5; rfl
                    by_cases e6 : q = 6
                    · subst e6; rfl
                    by_cases e7 : q = 7
                    · subst e7; rfl
                    simp only [va_up, if_neg e5, if_neg e6, if_neg e7])]
                refine V_aload0 eX2_factor_368 rfl ?_
                refine M_call mb eX2_factor_369 lmX2_number q2083 q2085 rfl qs62 (c_number mb (F := (va_up (va_up (va_up F 5 (nI ((sp + 1) + 0))) 6 (1 : Int32)) 7 (nI op))) (a := a) (sp := ((sp + 1) + 0)) (ln := ln) hF4 ha (show _ = nI ((sp + 1) + 0) from rfl) (by omega) hln hln4) (zblt (by omega)) rfl rfl rfl ?_
                rw [ms_extF (show (va_up (va_up (va_up (va_up (va_up F 5 (nI ((sp + 1) + 0))) 6 (1 : Int32)) 7 (nI op)) 5 (o_number S (va_up (va_up (va_up F 5 (nI ((sp + 1) + 0))) 6 (1 : Int32)) 7 (nI op)) a ((sp + 1) + 0) ln).2.1) 6 (o_number S (va_up (va_up (va_up F 5 (nI ((sp + 1) + 0))) 6 (1 : Int32)) 7 (nI op)) a ((sp + 1) + 0) ln).2.2) = (va_up (va_up (va_up F 5 (o_number S (va_up (va_up (va_up F 5 (nI ((sp + 1) + 0))) 6 (1 : Int32)) 7 (nI op)) a ((sp + 1) + 0) ln).2.1) 6 (o_number S (va_up (va_up (va_up F 5 (nI ((sp + 1) + 0))) 6 (1 : Int32)) 7 (nI op)) a ((sp + 1) + 0) ln).2.2) 7 (nI op)) from by
                    funext q
                    by_cases e5 : q = 5
                    · subst e5; rfl
                    by_cases e6 : q = 6
                    · subst e6; rfl
                    by_cases e7 : q = 7
                    · subst e7; rfl
                    simp only [va_up, if_neg e5, if_neg e6, if_neg e7])]
                obtain ⟨s7, hs7, hs7a, hs7b, hs7w, hs7v⟩ := num_ok (S := S) (F := (va_up (va_up (va_up F 5 (nI ((sp + 1) + 0))) 6 (1 : Int32)) 7 (nI op))) (a := a) (sp := ((sp + 1) + 0)) (ln := ln) (by omega) hln4
                have hs7c : ((o_number S (va_up (va_up (va_up F 5 (nI ((sp + 1) + 0))) 6 (1 : Int32)) 7 (nI op)) a ((sp + 1) + 0) ln).2.1).toNatClampNeg = s7 := by rw [hs7]; exact nI_clamp (by omega)
                rw [hs7]
                refine V_istore4 rfl eX2_factor_372 rfl ?_
                refine V_aload0 eX2_factor_374 rfl ?_
                refine M_gi mb (Or.inr rfl) (show _ = (o_number S (va_up (va_up (va_up F 5 (nI ((sp + 1) + 0))) 6 (1 : Int32)) 7 (nI op)) a ((sp + 1) + 0) ln).2.2 from rfl) eX2_factor_375 fl_X2_81_2 ?_
                refine V_ifeq eX2_factor_378 (fun c378 => absurd c378 (by rw [num_wrong rfl]; decide)) (fun c378 => ?_)
                refine V_iconst (v := 0) (by decide) eX2_factor_381 ?_
                refine V_goto eX2_factor_382 ?_
                refine V_istore5 rfl eX2_factor_391 rfl ?_
                refine V_iload3 eX2_factor_393 ?_
                refine V_bipush (v := 60) (by decide) eX2_factor_394 ?_
                refine V_if_icmpne eX2_factor_396 (fun c396 => ?_) (fun c396 => absurd c396 c330)
                refine V_iload5 eX2_factor_414 ?_
                refine V_iload4 eX2_factor_416 ?_
                refine V_if_icmple eX2_factor_418 (fun c418 => ?_) (fun c418 => ?_)
                · refine V_iconst (v := 0) (by decide) eX2_factor_425 ?_
                  have hE : ((0 : Int32), (nI s7), (o_number S (va_up (va_up (va_up F 5 (nI ((sp + 1) + 0))) 6 (1 : Int32)) 7 (nI op)) a ((sp + 1) + 0) ln).2.2) = o_factorS S A F a sp ln rf rs op := by rw [hj278]; simp only [D_factorS_278, hs7c, if_neg c282, if_neg c330, if_neg c336, if_pos c418]
                  exact V_zreturn eX2_factor_426 rfl (by decide) (by rw [← hE]; exact ⟨rfl, rfl⟩)
                · refine V_iconst (v := 1) (by decide) eX2_factor_421 ?_
                  refine V_goto eX2_factor_422 ?_
                  have hE : ((1 : Int32), (nI s7), (o_number S (va_up (va_up (va_up F 5 (nI ((sp + 1) + 0))) 6 (1 : Int32)) 7 (nI op)) a ((sp + 1) + 0) ln).2.2) = o_factorS S A F a sp ln rf rs op := by rw [hj278]; simp only [D_factorS_278, hs7c, if_neg c282, if_neg c330, if_neg c336, if_neg c418]
                  exact V_zreturn eX2_factor_426 rfl (by decide) (by rw [← hE]; exact ⟨rfl, rfl⟩)
          · refine V_iconst (v := 1) (by decide) eX2_factor_285 ?_
            refine V_goto eX2_factor_286 ?_
            refine M_pz mb (Or.inl rfl) rfl (by decide) eX2_factor_290 fl_X2_81_2 ?_
            rw [ms_extF (show va_up (va_up (va_up (va_up F 5 (nI sp)) 6 (0 : Int32)) 7 (nI op)) 6 (1 : Int32) = (va_up (va_up (va_up F 5 (nI sp)) 6 (1 : Int32)) 7 (nI op)) from by
                funext q
                by_cases e5 : q = 5
                · subst e5; rfl
                by_cases e6 : q = 6
                · subst e6; rfl
                by_cases e7 : q = 7
                · subst e7; rfl
                simp only [va_up, if_neg e5, if_neg e6, if_neg e7])]
            refine V_aload0 eX2_factor_293 rfl ?_
            refine V_dup rfl eX2_factor_294 ?_
            refine M_gi mb (Or.inl rfl) (show _ = (nI sp) from rfl) eX2_factor_295 fl_X2_75_2 ?_
            refine V_aload0 eX2_factor_298 rfl ?_
            refine M_gi mb (Or.inr rfl) (show _ = (1 : Int32) from rfl) eX2_factor_299 fl_X2_81_2 ?_
            refine V_ifeq eX2_factor_302 (fun c302 => absurd c302 (by decide)) (fun c302 => ?_)
            refine V_iconst (v := 0) (by decide) eX2_factor_305 ?_
            refine V_goto eX2_factor_306 ?_
            refine V_iadd eX2_factor_310 ?_
            refine M_pi mb (Or.inl rfl) rfl eX2_factor_311 fl_X2_75_2 ?_
            rw [show ((nI sp) + (0 : Int32)) = nI (sp + 0) from (zadd rfl rfl)]
            rw [ms_extF (show va_up (va_up (va_up (va_up F 5 (nI sp)) 6 (1 : Int32)) 7 (nI op)) 5 (nI (sp + 0)) = (va_up (va_up (va_up F 5 (nI (sp + 0))) 6 (1 : Int32)) 7 (nI op)) from by
                funext q
                by_cases e5 : q = 5
                · subst e5; rfl
                by_cases e6 : q = 6
                · subst e6; rfl
                by_cases e7 : q = 7
                · subst e7; rfl
                simp only [va_up, if_neg e5, if_neg e6, if_neg e7])]
            refine V_aload0 eX2_factor_314 rfl ?_
            refine M_call mb eX2_factor_315 lmX2_here q2063 q2065 rfl qs57 (c_here mb (a := a) (sp := (sp + 0)) (ln := ln) hF4 ha (show _ = nI (sp + 0) from rfl) (by omega) hln hln4) (zblt (by omega)) rfl rfl rfl ?_
            refine V_istore3 rfl eX2_factor_318 rfl ?_
            refine V_aload0 eX2_factor_319 rfl ?_
            refine V_aload0 eX2_factor_320 rfl ?_
            refine M_gi mb (Or.inr rfl) (show _ = (1 : Int32) from rfl) eX2_factor_321 fl_X2_81_2 ?_
            refine V_ifne eX2_factor_324 (fun c324 => ?_) (fun c324 => absurd c324 (by decide))
            refine V_iconst (v := 1) (by decide) eX2_factor_339 ?_
            refine V_goto eX2_factor_340 ?_
            refine M_pz mb (Or.inl rfl) rfl (by decide) eX2_factor_344 fl_X2_81_2 ?_
            rw [ms_extF (show va_up (va_up (va_up (va_up F 5 (nI (sp + 0))) 6 (1 : Int32)) 7 (nI op)) 6 (1 : Int32) = (va_up (va_up (va_up F 5 (nI (sp + 0))) 6 (1 : Int32)) 7 (nI op)) from by
                funext q
                by_cases e5 : q = 5
                · subst e5; rfl
                by_cases e6 : q = 6
                · subst e6; rfl
                by_cases e7 : q = 7
                · subst e7; rfl
                simp only [va_up, if_neg e5, if_neg e6, if_neg e7])]
            refine V_aload0 eX2_factor_347 rfl ?_
            refine V_dup rfl eX2_factor_348 ?_
            refine M_gi mb (Or.inl rfl) (show _ = (nI (sp + 0)) from rfl) eX2_factor_349 fl_X2_75_2 ?_
            refine V_aload0 eX2_factor_352 rfl ?_
            refine M_gi mb (Or.inr rfl) (show _ = (1 : Int32) from rfl) eX2_factor_353 fl_X2_81_2 ?_
            refine V_ifeq eX2_factor_356 (fun c356 => absurd c356 (by decide)) (fun c356 => ?_)
            refine V_iconst (v := 0) (by decide) eX2_factor_359 ?_
            refine V_goto eX2_factor_360 ?_
            refine V_iadd eX2_factor_364 ?_
            refine M_pi mb (Or.inl rfl) rfl eX2_factor_365 fl_X2_75_2 ?_
            rw [show ((nI (sp + 0)) + (0 : Int32)) = nI ((sp + 0) + 0) from (zadd rfl rfl)]
            rw [ms_extF (show va_up (va_up (va_up (va_up F 5 (nI (sp + 0))) 6 (1 : Int32)) 7 (nI op)) 5 (nI ((sp + 0) + 0)) = (va_up (va_up (va_up F 5 (nI ((sp + 0) + 0))) 6 (1 : Int32)) 7 (nI op)) from by
                funext q
                by_cases e5 : q = 5
                · subst e5; rfl
                by_cases e6 : q = 6
                · subst e6; rfl
                by_cases e7 : q = 7
                · subst e7; rfl
                simp only [va_up, if_neg e5, if_neg e6, if_neg e7])]
            refine V_aload0 eX2_factor_368 rfl ?_
            refine M_call mb eX2_factor_369 lmX2_number q2083 q2085 rfl qs62 (c_number mb (F := (va_up (va_up (va_up F 5 (nI ((sp + 0) + 0))) 6 (1 : Int32)) 7 (nI op))) (a := a) (sp := ((sp + 0) + 0)) (ln := ln) hF4 ha (show _ = nI ((sp + 0) + 0) from rfl) (by omega) hln hln4) (zblt (by omega)) rfl rfl rfl ?_
            rw [ms_extF (show (va_up (va_up (va_up (va_up (va_up F 5 (nI ((sp + 0) + 0))) 6 (1 : Int32)) 7 (nI op)) 5 (o_number S (va_up (va_up (va_up F 5 (nI ((sp + 0) + 0))) 6 (1 : Int32)) 7 (nI op)) a ((sp + 0) + 0) ln).2.1) 6 (o_number S (va_up (va_up (va_up F 5 (nI ((sp + 0) + 0))) 6 (1 : Int32)) 7 (nI op)) a ((sp + 0) + 0) ln).2.2) = (va_up (va_up (va_up F 5 (o_number S (va_up (va_up (va_up F 5 (nI ((sp + 0) + 0))) 6 (1 : Int32)) 7 (nI op)) a ((sp + 0) + 0) ln).2.1) 6 (o_number S (va_up (va_up (va_up F 5 (nI ((sp + 0) + 0))) 6 (1 : Int32)) 7 (nI op)) a ((sp + 0) + 0) ln).2.2) 7 (nI op)) from by
                funext q
                by_cases e5 : q = 5
                · subst e5; rfl
                by_cases e6 : q = 6
                · subst e6; rfl
                by_cases e7 : q = 7
                · subst e7; rfl
                simp only [va_up, if_neg e5, if_neg e6, if_neg e7])]
            obtain ⟨s8, hs8, hs8a, hs8b, hs8w, hs8v⟩ := num_ok (S := S) (F := (va_up (va_up (va_up F 5 (nI ((sp + 0) + 0))) 6 (1 : Int32)) 7 (nI op))) (a := a) (sp := ((sp + 0) + 0)) (ln := ln) (by omega) hln4
            have hs8c : ((o_number S (va_up (va_up (va_up F 5 (nI ((sp + 0) + 0))) 6 (1 : Int32)) 7 (nI op)) a ((sp + 0) + 0) ln).2.1).toNatClampNeg = s8 := by rw [hs8]; exact nI_clamp (by omega)
            rw [hs8]
            refine V_istore4 rfl eX2_factor_372 rfl ?_
            refine V_aload0 eX2_factor_374 rfl ?_
            refine M_gi mb (Or.inr rfl) (show _ = (o_number S (va_up (va_up (va_up F 5 (nI ((sp + 0) + 0))) 6 (1 : Int32)) 7 (nI op)) a ((sp + 0) + 0) ln).2.2 from rfl) eX2_factor_375 fl_X2_81_2 ?_
            refine V_ifeq eX2_factor_378 (fun c378 => absurd c378 (by rw [num_wrong rfl]; decide)) (fun c378 => ?_)
            refine V_iconst (v := 0) (by decide) eX2_factor_381 ?_
            refine V_goto eX2_factor_382 ?_
            refine V_istore5 rfl eX2_factor_391 rfl ?_
            refine V_iload3 eX2_factor_393 ?_
            refine V_bipush (v := 60) (by decide) eX2_factor_394 ?_
            refine V_if_icmpne eX2_factor_396 (fun c396 => ?_) (fun c396 => ?_)
            · refine V_iload5 eX2_factor_414 ?_
              refine V_iload4 eX2_factor_416 ?_
              refine V_if_icmple eX2_factor_418 (fun c418 => ?_) (fun c418 => ?_)
              · refine V_iconst (v := 0) (by decide) eX2_factor_425 ?_
                have hE : ((0 : Int32), (nI s8), (o_number S (va_up (va_up (va_up F 5 (nI ((sp + 0) + 0))) 6 (1 : Int32)) 7 (nI op)) a ((sp + 0) + 0) ln).2.2) = o_factorS S A F a sp ln rf rs op := by rw [hj278]; simp only [D_factorS_278, hs8c, if_pos c282, if_neg c396, if_pos c418]
                exact V_zreturn eX2_factor_426 rfl (by decide) (by rw [← hE]; exact ⟨rfl, rfl⟩)
              · refine V_iconst (v := 1) (by decide) eX2_factor_421 ?_
                refine V_goto eX2_factor_422 ?_
                have hE : ((1 : Int32), (nI s8), (o_number S (va_up (va_up (va_up F 5 (nI ((sp + 0) + 0))) 6 (1 : Int32)) 7 (nI op)) a ((sp + 0) + 0) ln).2.2) = o_factorS S A F a sp ln rf rs op := by rw [hj278]; simp only [D_factorS_278, hs8c, if_pos c282, if_neg c396, if_neg c418]
                exact V_zreturn eX2_factor_426 rfl (by decide) (by rw [← hE]; exact ⟨rfl, rfl⟩)
            · refine V_iload5 eX2_factor_399 ?_
              refine V_iload4 eX2_factor_401 ?_
              refine V_if_icmpge eX2_factor_403 (fun c403 => ?_) (fun c403 => ?_)
              · refine V_iconst (v := 0) (by decide) eX2_factor_410 ?_
                refine V_goto eX2_factor_411 ?_
                have hE : ((0 : Int32), (nI s8), (o_number S (va_up (va_up (va_up F 5 (nI ((sp + 0) + 0))) 6 (1 : Int32)) 7 (nI op)) a ((sp + 0) + 0) ln).2.2) = o_factorS S A F a sp ln rf rs op := by rw [hj278]; simp only [D_factorS_278, hs8c, if_pos c282, if_pos c396, if_pos c403]
                exact V_zreturn eX2_factor_426 rfl (by decide) (by rw [← hE]; exact ⟨rfl, rfl⟩)
              · refine V_iconst (v := 1) (by decide) eX2_factor_406 ?_
                refine V_goto eX2_factor_407 ?_
                have hE : ((1 : Int32), (nI s8), (o_number S (va_up (va_up (va_up F 5 (nI ((sp + 0) + 0))) 6 (1 : Int32)) 7 (nI op)) a ((sp + 0) + 0) ln).2.2) = o_factorS S A F a sp ln rf rs op := by rw [hj278]; simp only [D_factorS_278, hs8c, if_pos c282, if_pos c396, if_neg c403]
                exact V_zreturn eX2_factor_426 rfl (by decide) (by rw [← hE]; exact ⟨rfl, rfl⟩)
        refine V_iload1 eX2_factor_227 ?_
        refine V_bipush (v := 121) (by decide) eX2_factor_228 ?_
        refine V_if_icmpne eX2_factor_230 (fun c230 => ?_) (fun c230 => ?_)
        · refine V_iload1 eX2_factor_237 ?_
          refine V_bipush (v := 116) (by decide) eX2_factor_238 ?_
          refine V_if_icmpne eX2_factor_240 (fun c240 => ?_) (fun c240 => ?_)
          · refine V_iload1 eX2_factor_247 ?_
            refine V_bipush (v := 119) (by decide) eX2_factor_248 ?_
            refine V_if_icmpne eX2_factor_250 (fun c250 => ?_) (fun c250 => ?_)
            · refine V_iload1 eX2_factor_257 ?_
              refine V_bipush (v := 114) (by decide) eX2_factor_258 ?_
              refine V_if_icmpne eX2_factor_260 (fun c260 => ?_) (fun c260 => ?_)
              · refine V_iload1 eX2_factor_267 ?_
                refine V_bipush (v := 99) (by decide) eX2_factor_268 ?_
                refine V_if_icmpne eX2_factor_270 (fun c270 => ?_) (fun c270 => ?_)
                · refine V_iconst (v := -1) (by decide) eX2_factor_277 ?_
                  exact V.le (zle_c (zle_n (zle_n (zle_n (zle_n (zle_n zle_0)))))) (J278 (-1 : Int32) (by simp only [o_factorS, if_neg c17, if_neg c23, if_neg c138, if_neg c230, if_neg c240, if_neg c250, if_neg c260, if_neg c270])  (by first | exact Or.inl rfl | exact Or.inr ⟨0, rfl, by decide⟩ | exact Or.inr ⟨1, rfl, by decide⟩ | exact Or.inr ⟨2, rfl, by decide⟩ | exact Or.inr ⟨3, rfl, by decide⟩ | exact Or.inr ⟨4, rfl, by decide⟩) (fun q => by first | exact absurd rfl q | exact here_lt (S := S) (a := a) (by rw [c230]; decide) hsp hln4 | exact here_lt (S := S) (a := a) (by rw [c240]; decide) hsp hln4 | exact here_lt (S := S) (a := a) (by rw [c250]; decide) hsp hln4 | exact here_lt (S := S) (a := a) (by rw [c260]; decide) hsp hln4 | exact here_lt (S := S) (a := a) (by rw [c270]; decide) hsp hln4))
                · refine V_iconst (v := 4) (by decide) eX2_factor_273 ?_
                  refine V_goto eX2_factor_274 ?_
                  exact V.le (zle_c (zle_n (zle_n (zle_n (zle_n (zle_n zle_0)))))) (J278 (4 : Int32) (by simp only [o_factorS, if_neg c17, if_neg c23, if_neg c138, if_neg c230, if_neg c240, if_neg c250, if_neg c260, if_pos c270])  (by first | exact Or.inl rfl | exact Or.inr ⟨0, rfl, by decide⟩ | exact Or.inr ⟨1, rfl, by decide⟩ | exact Or.inr ⟨2, rfl, by decide⟩ | exact Or.inr ⟨3, rfl, by decide⟩ | exact Or.inr ⟨4, rfl, by decide⟩) (fun q => by first | exact absurd rfl q | exact here_lt (S := S) (a := a) (by rw [c230]; decide) hsp hln4 | exact here_lt (S := S) (a := a) (by rw [c240]; decide) hsp hln4 | exact here_lt (S := S) (a := a) (by rw [c250]; decide) hsp hln4 | exact here_lt (S := S) (a := a) (by rw [c260]; decide) hsp hln4 | exact here_lt (S := S) (a := a) (by rw [c270]; decide) hsp hln4))
              · refine V_iconst (v := 3) (by decide) eX2_factor_263 ?_
                refine V_goto eX2_factor_264 ?_
                exact V.le (zle_c (zle_n (zle_n (zle_n (zle_n (zle_n zle_0)))))) (J278 (3 : Int32) (by simp only [o_factorS, if_neg c17, if_neg c23, if_neg c138, if_neg c230, if_neg c240, if_neg c250, if_pos c260])  (by first | exact Or.inl rfl | exact Or.inr ⟨0, rfl, by decide⟩ | exact Or.inr ⟨1, rfl, by decide⟩ | exact Or.inr ⟨2, rfl, by decide⟩ | exact Or.inr ⟨3, rfl, by decide⟩ | exact Or.inr ⟨4, rfl, by decide⟩) (fun q => by first | exact absurd rfl q | exact here_lt (S := S) (a := a) (by rw [c230]; decide) hsp hln4 | exact here_lt (S := S) (a := a) (by rw [c240]; decide) hsp hln4 | exact here_lt (S := S) (a := a) (by rw [c250]; decide) hsp hln4 | exact here_lt (S := S) (a := a) (by rw [c260]; decide) hsp hln4 | exact here_lt (S := S) (a := a) (by rw [c270]; decide) hsp hln4))
            · refine V_iconst (v := 2) (by decide) eX2_factor_253 ?_
              refine V_goto eX2_factor_254 ?_
              exact V.le (zle_c (zle_n (zle_n (zle_n (zle_n (zle_n zle_0)))))) (J278 (2 : Int32) (by simp only [o_factorS, if_neg c17, if_neg c23, if_neg c138, if_neg c230, if_neg c240, if_pos c250])  (by first | exact Or.inl rfl | exact Or.inr ⟨0, rfl, by decide⟩ | exact Or.inr ⟨1, rfl, by decide⟩ | exact Or.inr ⟨2, rfl, by decide⟩ | exact Or.inr ⟨3, rfl, by decide⟩ | exact Or.inr ⟨4, rfl, by decide⟩) (fun q => by first | exact absurd rfl q | exact here_lt (S := S) (a := a) (by rw [c230]; decide) hsp hln4 | exact here_lt (S := S) (a := a) (by rw [c240]; decide) hsp hln4 | exact here_lt (S := S) (a := a) (by rw [c250]; decide) hsp hln4 | exact here_lt (S := S) (a := a) (by rw [c260]; decide) hsp hln4 | exact here_lt (S := S) (a := a) (by rw [c270]; decide) hsp hln4))
          · refine V_iconst (v := 1) (by decide) eX2_factor_243 ?_
            refine V_goto eX2_factor_244 ?_
            exact V.le (zle_c (zle_n (zle_n (zle_n (zle_n (zle_n zle_0)))))) (J278 (1 : Int32) (by simp only [o_factorS, if_neg c17, if_neg c23, if_neg c138, if_neg c230, if_pos c240])  (by first | exact Or.inl rfl | exact Or.inr ⟨0, rfl, by decide⟩ | exact Or.inr ⟨1, rfl, by decide⟩ | exact Or.inr ⟨2, rfl, by decide⟩ | exact Or.inr ⟨3, rfl, by decide⟩ | exact Or.inr ⟨4, rfl, by decide⟩) (fun q => by first | exact absurd rfl q | exact here_lt (S := S) (a := a) (by rw [c230]; decide) hsp hln4 | exact here_lt (S := S) (a := a) (by rw [c240]; decide) hsp hln4 | exact here_lt (S := S) (a := a) (by rw [c250]; decide) hsp hln4 | exact here_lt (S := S) (a := a) (by rw [c260]; decide) hsp hln4 | exact here_lt (S := S) (a := a) (by rw [c270]; decide) hsp hln4))
        · refine V_iconst (v := 0) (by decide) eX2_factor_233 ?_
          refine V_goto eX2_factor_234 ?_
          exact V.le (zle_c (zle_n (zle_n (zle_n (zle_n (zle_n zle_0)))))) (J278 (0 : Int32) (by simp only [o_factorS, if_neg c17, if_neg c23, if_neg c138, if_pos c230])  (by first | exact Or.inl rfl | exact Or.inr ⟨0, rfl, by decide⟩ | exact Or.inr ⟨1, rfl, by decide⟩ | exact Or.inr ⟨2, rfl, by decide⟩ | exact Or.inr ⟨3, rfl, by decide⟩ | exact Or.inr ⟨4, rfl, by decide⟩) (fun q => by first | exact absurd rfl q | exact here_lt (S := S) (a := a) (by rw [c230]; decide) hsp hln4 | exact here_lt (S := S) (a := a) (by rw [c240]; decide) hsp hln4 | exact here_lt (S := S) (a := a) (by rw [c250]; decide) hsp hln4 | exact here_lt (S := S) (a := a) (by rw [c260]; decide) hsp hln4 | exact here_lt (S := S) (a := a) (by rw [c270]; decide) hsp hln4))
      · have hlt := here_lt (a := a) (sp := sp) (ln := ln) (S := S) (by rw [c138]; decide) hsp hln4
        refine V_aload0 eX2_factor_141 rfl ?_
        refine V_dup rfl eX2_factor_142 ?_
        refine M_gi mb (Or.inl rfl) (show _ = (nI sp) from rfl) eX2_factor_143 fl_X2_75_2 ?_
        refine V_iconst (v := 1) (by decide) eX2_factor_146 ?_
        refine V_iadd eX2_factor_147 ?_
        refine M_pi mb (Or.inl rfl) rfl eX2_factor_148 fl_X2_75_2 ?_
        rw [show ((nI sp) + (1 : Int32)) = nI (sp + 1) from (zadd rfl rfl)]
        rw [ms_extF (show va_up (va_up (va_up (va_up F 5 (nI sp)) 6 (0 : Int32)) 7 (nI op)) 5 (nI (sp + 1)) = (va_up (va_up (va_up F 5 (nI (sp + 1))) 6 (0 : Int32)) 7 (nI op)) from by
            funext q
            by_cases e5 : q = 5
            · subst e5; rfl
            by_cases e6 : q = 6
            · subst e6; rfl
            by_cases e7 : q = 7
            · subst e7; rfl
            simp only [va_up, if_neg e5, if_neg e6, if_neg e7])]
        refine V_aload0 eX2_factor_151 rfl ?_
        refine V_bipush (v := 61) (by decide) eX2_factor_152 ?_
        refine M_callU mb eX2_factor_154 lmX2_must q2079 q2081 rfl qs61 (c_must mb (F := (va_up (va_up (va_up F 5 (nI (sp + 1))) 6 (0 : Int32)) 7 (nI op))) (61 : Int32) (a := a) (sp := (sp + 1)) (ln := ln) hF4 ha (show _ = nI (sp + 1) from rfl) (by omega) hln hln4 (by decide)) (zblt (by omega)) rfl rfl rfl ?_
        rw [ms_extF (show (va_up (va_up (va_up (va_up (va_up F 5 (nI (sp + 1))) 6 (0 : Int32)) 7 (nI op)) 5 (o_must S (va_up (va_up (va_up F 5 (nI (sp + 1))) 6 (0 : Int32)) 7 (nI op)) a (sp + 1) ln (61 : Int32)).1) 6 (o_must S (va_up (va_up (va_up F 5 (nI (sp + 1))) 6 (0 : Int32)) 7 (nI op)) a (sp + 1) ln (61 : Int32)).2) = (va_up (va_up (va_up F 5 (o_must S (va_up (va_up (va_up F 5 (nI (sp + 1))) 6 (0 : Int32)) 7 (nI op)) a (sp + 1) ln (61 : Int32)).1) 6 (o_must S (va_up (va_up (va_up F 5 (nI (sp + 1))) 6 (0 : Int32)) 7 (nI op)) a (sp + 1) ln (61 : Int32)).2) 7 (nI op)) from by
            funext q
            by_cases e5 : q = 5
            · subst e5; rfl
            by_cases e6 : q = 6
            · subst e6; rfl
            by_cases e7 : q = 7
            · subst e7; rfl
            simp only [va_up, if_neg e5, if_neg e6, if_neg e7])]
        obtain ⟨s9, hs9, hs9a, hs9b, hs9w, hs9v⟩ := must_ok (S := S) (F := (va_up (va_up (va_up F 5 (nI (sp + 1))) 6 (0 : Int32)) 7 (nI op))) (a := a) (sp := (sp + 1)) (ln := ln) (c := (61 : Int32)) (by omega) hln4 (by decide)
        have hs9c : ((o_must S (va_up (va_up (va_up F 5 (nI (sp + 1))) 6 (0 : Int32)) 7 (nI op)) a (sp + 1) ln (61 : Int32)).1).toNatClampNeg = s9 := by rw [hs9]; exact nI_clamp (by omega)
        rw [hs9]
        refine V_aload0 eX2_factor_157 rfl ?_
        refine M_call mb eX2_factor_158 lmX2_here q2063 q2065 rfl qs57 (c_here mb (a := a) (sp := s9) (ln := ln) hF4 ha (show _ = nI s9 from rfl) (by omega) hln hln4) (zblt (by omega)) rfl rfl rfl ?_
        refine V_bipush (v := 48) (by decide) eX2_factor_161 ?_
        refine V_isub eX2_factor_163 ?_
        refine V_istore2 rfl eX2_factor_164 rfl ?_
        refine V_aload0 eX2_factor_165 rfl ?_
        refine V_aload0 eX2_factor_166 rfl ?_
        refine M_gi mb (Or.inr rfl) (show _ = (o_must S (va_up (va_up (va_up F 5 (nI (sp + 1))) 6 (0 : Int32)) 7 (nI op)) a (sp + 1) ln (61 : Int32)).2 from rfl) eX2_factor_167 fl_X2_81_2 ?_
        refine V_ifne eX2_factor_170 (fun c170 => ?_) (fun c170 => ?_)
        · refine V_iconst (v := 1) (by decide) eX2_factor_182 ?_
          refine V_goto eX2_factor_183 ?_
          refine M_pz mb (Or.inl rfl) rfl (by decide) eX2_factor_187 fl_X2_81_2 ?_
          rw [ms_extF (show va_up (va_up (va_up (va_up F 5 (nI s9)) 6 (o_must S (va_up (va_up (va_up F 5 (nI (sp + 1))) 6 (0 : Int32)) 7 (nI op)) a (sp + 1) ln (61 : Int32)).2) 7 (nI op)) 6 (1 : Int32) = (va_up (va_up (va_up F 5 (nI s9)) 6 (1 : Int32)) 7 (nI op)) from by
              funext q
              by_cases e5 : q = 5
              · subst e5; rfl
              by_cases e6 : q = 6
              · subst e6; rfl
              by_cases e7 : q = 7
              · subst e7; rfl
              simp only [va_up, if_neg e5, if_neg e6, if_neg e7])]
          refine V_aload0 eX2_factor_190 rfl ?_
          refine V_dup rfl eX2_factor_191 ?_
          refine M_gi mb (Or.inl rfl) (show _ = (nI s9) from rfl) eX2_factor_192 fl_X2_75_2 ?_
          refine V_aload0 eX2_factor_195 rfl ?_
          refine M_gi mb (Or.inr rfl) (show _ = (1 : Int32) from rfl) eX2_factor_196 fl_X2_81_2 ?_
          refine V_ifeq eX2_factor_199 (fun c199 => absurd c199 (by decide)) (fun c199 => ?_)
          refine V_iconst (v := 0) (by decide) eX2_factor_202 ?_
          refine V_goto eX2_factor_203 ?_
          refine V_iadd eX2_factor_207 ?_
          refine M_pi mb (Or.inl rfl) rfl eX2_factor_208 fl_X2_75_2 ?_
          rw [show ((nI s9) + (0 : Int32)) = nI (s9 + 0) from (zadd rfl rfl)]
          rw [ms_extF (show va_up (va_up (va_up (va_up F 5 (nI s9)) 6 (1 : Int32)) 7 (nI op)) 5 (nI (s9 + 0)) = (va_up (va_up (va_up F 5 (nI (s9 + 0))) 6 (1 : Int32)) 7 (nI op)) from by
              funext q
              by_cases e5 : q = 5
              · subst e5; rfl
              by_cases e6 : q = 6
              · subst e6; rfl
              by_cases e7 : q = 7
              · subst e7; rfl
              simp only [va_up, if_neg e5, if_neg e6, if_neg e7])]
          refine V_aload0 eX2_factor_211 rfl ?_
          refine M_ga mb rfl eX2_factor_212 fl_X2_17_2 ?_
          refine V_iconst (v := 5) (by decide) eX2_factor_215 ?_
          refine M_al (j := 8) (n := 5) mb rfl (by decide) rfl (by show _ < _; first | decide | (simp only [mlen]; omega)) (show _ = (A 8 5) from rfl) eX2_factor_216 ?_
          refine V_iload2 eX2_factor_217 ?_
          refine V_if_icmpne eX2_factor_218 (fun c218 => ?_) (fun c218 => ?_)
          · refine V_iconst (v := 0) (by decide) eX2_factor_225 ?_
            have hE : ((0 : Int32), (nI (s9 + 0)), (1 : Int32)) = o_factorS S A F a sp ln rf rs op := by simp only [o_factorS, hs9c, if_neg c17, if_neg c23, if_pos c138, if_neg c170, if_neg c218]
            exact V_zreturn eX2_factor_226 rfl (by decide) (by rw [← hE]; exact ⟨rfl, rfl⟩)
          · refine V_iconst (v := 1) (by decide) eX2_factor_221 ?_
            refine V_goto eX2_factor_222 ?_
            have hE : ((1 : Int32), (nI (s9 + 0)), (1 : Int32)) = o_factorS S A F a sp ln rf rs op := by simp only [o_factorS, hs9c, if_neg c17, if_neg c23, if_pos c138, if_neg c170, if_pos c218]
            exact V_zreturn eX2_factor_226 rfl (by decide) (by rw [← hE]; exact ⟨rfl, rfl⟩)
        · refine V_iload2 eX2_factor_173 ?_
          refine V_iconst (v := 0) (by decide) eX2_factor_174 ?_
          refine V_iconst (v := 1) (by decide) eX2_factor_175 ?_
          refine C0_static eX2_factor_176 lmX2_in q1966 q1967 (c_in _ _ _ _) (zblt (by omega)) rfl rfl rfl ?_
          refine V_ifne eX2_factor_179 (fun c179 => ?_) (fun c179 => ?_)
          · have hl2 := here_lt (a := a) (sp := s9) (ln := ln) (S := S) (fun q => c179 (by rw [q]; decide)) (by omega) hln4
            refine V_iconst (v := 0) (by decide) eX2_factor_186 ?_
            refine M_pz mb (Or.inl rfl) rfl (by decide) eX2_factor_187 fl_X2_81_2 ?_
            rw [ms_extF (show va_up (va_up (va_up (va_up F 5 (nI s9)) 6 (o_must S (va_up (va_up (va_up F 5 (nI (sp + 1))) 6 (0 : Int32)) 7 (nI op)) a (sp + 1) ln (61 : Int32)).2) 7 (nI op)) 6 (0 : Int32) = (va_up (va_up (va_up F 5 (nI s9)) 6 (0 : Int32)) 7 (nI op)) from by
                funext q
                by_cases e5 : q = 5
                · subst e5; rfl
                by_cases e6 : q = 6
                · subst e6; rfl
                by_cases e7 : q = 7
                · subst e7; rfl
                simp only [va_up, if_neg e5, if_neg e6, if_neg e7])]
            refine V_aload0 eX2_factor_190 rfl ?_
            refine V_dup rfl eX2_factor_191 ?_
            refine M_gi mb (Or.inl rfl) (show _ = (nI s9) from rfl) eX2_factor_192 fl_X2_75_2 ?_
            refine V_aload0 eX2_factor_195 rfl ?_
            refine M_gi mb (Or.inr rfl) (show _ = (0 : Int32) from rfl) eX2_factor_196 fl_X2_81_2 ?_
            refine V_ifeq eX2_factor_199 (fun c199 => ?_) (fun c199 => absurd c199 (by decide))
            refine V_iconst (v := 1) (by decide) eX2_factor_206 ?_
            refine V_iadd eX2_factor_207 ?_
            refine M_pi mb (Or.inl rfl) rfl eX2_factor_208 fl_X2_75_2 ?_
            rw [show ((nI s9) + (1 : Int32)) = nI (s9 + 1) from (zadd rfl rfl)]
            rw [ms_extF (show va_up (va_up (va_up (va_up F 5 (nI s9)) 6 (0 : Int32)) 7 (nI op)) 5 (nI (s9 + 1)) = (va_up (va_up (va_up F 5 (nI (s9 + 1))) 6 (0 : Int32)) 7 (nI op)) from by
                funext q
                by_cases e5 : q = 5
                · subst e5; rfl
                by_cases e6 : q = 6
                · subst e6; rfl
                by_cases e7 : q = 7
                · subst e7; rfl
                simp only [va_up, if_neg e5, if_neg e6, if_neg e7])]
            refine V_aload0 eX2_factor_211 rfl ?_
            refine M_ga mb rfl eX2_factor_212 fl_X2_17_2 ?_
            refine V_iconst (v := 5) (by decide) eX2_factor_215 ?_
            refine M_al (j := 8) (n := 5) mb rfl (by decide) rfl (by show _ < _; first | decide | (simp only [mlen]; omega)) (show _ = (A 8 5) from rfl) eX2_factor_216 ?_
            refine V_iload2 eX2_factor_217 ?_
            refine V_if_icmpne eX2_factor_218 (fun c218 => ?_) (fun c218 => ?_)
            · refine V_iconst (v := 0) (by decide) eX2_factor_225 ?_
              have hE : ((0 : Int32), (nI (s9 + 1)), (0 : Int32)) = o_factorS S A F a sp ln rf rs op := by simp only [o_factorS, hs9c, if_neg c17, if_neg c23, if_pos c138, if_pos c170, if_neg c179, if_neg c218]
              exact V_zreturn eX2_factor_226 rfl (by decide) (by rw [← hE]; exact ⟨rfl, rfl⟩)
            · refine V_iconst (v := 1) (by decide) eX2_factor_221 ?_
              refine V_goto eX2_factor_222 ?_
              have hE : ((1 : Int32), (nI (s9 + 1)), (0 : Int32)) = o_factorS S A F a sp ln rf rs op := by simp only [o_factorS, hs9c, if_neg c17, if_neg c23, if_pos c138, if_pos c170, if_neg c179, if_pos c218]
              exact V_zreturn eX2_factor_226 rfl (by decide) (by rw [← hE]; exact ⟨rfl, rfl⟩)
          · refine V_iconst (v := 1) (by decide) eX2_factor_182 ?_
            refine V_goto eX2_factor_183 ?_
            refine M_pz mb (Or.inl rfl) rfl (by decide) eX2_factor_187 fl_X2_81_2 ?_
            rw [ms_extF (show va_up (va_up (va_up (va_up F 5 (nI s9)) 6 (o_must S (va_up (va_up (va_up F 5 (nI (sp + 1))) 6 (0 : Int32)) 7 (nI op)) a (sp + 1) ln (61 : Int32)).2) 7 (nI op)) 6 (1 : Int32) = (va_up (va_up (va_up F 5 (nI s9)) 6 (1 : Int32)) 7 (nI op)) from by
                funext q
                by_cases e5 : q = 5
                · subst e5; rfl
                by_cases e6 : q = 6
                · subst e6; rfl
                by_cases e7 : q = 7
                · subst e7; rfl
                simp only [va_up, if_neg e5, if_neg e6, if_neg e7])]
            refine V_aload0 eX2_factor_190 rfl ?_
            refine V_dup rfl eX2_factor_191 ?_
            refine M_gi mb (Or.inl rfl) (show _ = (nI s9) from rfl) eX2_factor_192 fl_X2_75_2 ?_
            refine V_aload0 eX2_factor_195 rfl ?_
            refine M_gi mb (Or.inr rfl) (show _ = (1 : Int32) from rfl) eX2_factor_196 fl_X2_81_2 ?_
            refine V_ifeq eX2_factor_199 (fun c199 => absurd c199 (by decide)) (fun c199 => ?_)
            refine V_iconst (v := 0) (by decide) eX2_factor_202 ?_
            refine V_goto eX2_factor_203 ?_
            refine V_iadd eX2_factor_207 ?_
            refine M_pi mb (Or.inl rfl) rfl eX2_factor_208 fl_X2_75_2 ?_
            rw [show ((nI s9) + (0 : Int32)) = nI (s9 + 0) from (zadd rfl rfl)]
            rw [ms_extF (show va_up (va_up (va_up (va_up F 5 (nI s9)) 6 (1 : Int32)) 7 (nI op)) 5 (nI (s9 + 0)) = (va_up (va_up (va_up F 5 (nI (s9 + 0))) 6 (1 : Int32)) 7 (nI op)) from by
                funext q
                by_cases e5 : q = 5
                · subst e5; rfl
                by_cases e6 : q = 6
                · subst e6; rfl
                by_cases e7 : q = 7
                · subst e7; rfl
                simp only [va_up, if_neg e5, if_neg e6, if_neg e7])]
            refine V_aload0 eX2_factor_211 rfl ?_
            refine M_ga mb rfl eX2_factor_212 fl_X2_17_2 ?_
            refine V_iconst (v := 5) (by decide) eX2_factor_215 ?_
            refine M_al (j := 8) (n := 5) mb rfl (by decide) rfl (by show _ < _; first | decide | (simp only [mlen]; omega)) (show _ = (A 8 5) from rfl) eX2_factor_216 ?_
            refine V_iload2 eX2_factor_217 ?_
            refine V_if_icmpne eX2_factor_218 (fun c218 => ?_) (fun c218 => ?_)
            · refine V_iconst (v := 0) (by decide) eX2_factor_225 ?_
              have hE : ((0 : Int32), (nI (s9 + 0)), (1 : Int32)) = o_factorS S A F a sp ln rf rs op := by simp only [o_factorS, hs9c, if_neg c17, if_neg c23, if_pos c138, if_pos c170, if_pos c179, if_neg c218]
              exact V_zreturn eX2_factor_226 rfl (by decide) (by rw [← hE]; exact ⟨rfl, rfl⟩)
            · refine V_iconst (v := 1) (by decide) eX2_factor_221 ?_
              refine V_goto eX2_factor_222 ?_
              have hE : ((1 : Int32), (nI (s9 + 0)), (1 : Int32)) = o_factorS S A F a sp ln rf rs op := by simp only [o_factorS, hs9c, if_neg c17, if_neg c23, if_pos c138, if_pos c170, if_pos c179, if_pos c218]
              exact V_zreturn eX2_factor_226 rfl (by decide) (by rw [← hE]; exact ⟨rfl, rfl⟩)
    · have hlt := here_lt (a := a) (sp := sp) (ln := ln) (S := S) (by rw [c23]; decide) hsp hln4
      refine V_aload0 eX2_factor_26 rfl ?_
      refine V_aload0 eX2_factor_27 rfl ?_
      refine M_gi mb (Or.inl rfl) (show _ = (nI op) from rfl) eX2_factor_28 fl_X2_116_2 ?_
      refine V_iconst (v := 5) (by decide) eX2_factor_31 ?_
      refine V_if_icmpne eX2_factor_32 (fun c32 => ?_) (fun c32 => ?_)
      · have hne : op ≠ 5 := fun q => c32 (by rw [q]; rfl)
        refine V_iconst (v := 0) (by decide) eX2_factor_39 ?_
        refine M_pz mb (Or.inl rfl) rfl (by decide) eX2_factor_40 fl_X2_81_2 ?_
        rw [ms_extF (show va_up (va_up (va_up (va_up F 5 (nI sp)) 6 (0 : Int32)) 7 (nI op)) 6 (0 : Int32) = (va_up (va_up (va_up F 5 (nI sp)) 6 (0 : Int32)) 7 (nI op)) from by
            funext q
            by_cases e5 : q = 5
            · subst e5; rfl
            by_cases e6 : q = 6
            · subst e6; rfl
            by_cases e7 : q = 7
            · subst e7; rfl
            simp only [va_up, if_neg e5, if_neg e6, if_neg e7])]
        refine V_aload0 eX2_factor_43 rfl ?_
        refine V_dup rfl eX2_factor_44 ?_
        refine M_gi mb (Or.inl rfl) (show _ = (nI op) from rfl) eX2_factor_45 fl_X2_116_2 ?_
        refine V_iconst (v := 1) (by decide) eX2_factor_48 ?_
        refine V_iadd eX2_factor_49 ?_
        refine M_pi mb (Or.inl rfl) rfl eX2_factor_50 fl_X2_116_2 ?_
        rw [show ((nI op) + (1 : Int32)) = nI (op + 1) from (zadd rfl rfl)]
        rw [ms_extF (show va_up (va_up (va_up (va_up F 5 (nI sp)) 6 (0 : Int32)) 7 (nI op)) 7 (nI (op + 1)) = (va_up (va_up (va_up F 5 (nI sp)) 6 (0 : Int32)) 7 (nI (op + 1))) from by
            funext q
            by_cases e5 : q = 5
            · subst e5; rfl
            by_cases e6 : q = 6
            · subst e6; rfl
            by_cases e7 : q = 7
            · subst e7; rfl
            simp only [va_up, if_neg e5, if_neg e6, if_neg e7])]
        refine V_aload0 eX2_factor_53 rfl ?_
        refine V_dup rfl eX2_factor_54 ?_
        refine M_gi mb (Or.inl rfl) (show _ = (nI sp) from rfl) eX2_factor_55 fl_X2_75_2 ?_
        refine V_aload0 eX2_factor_58 rfl ?_
        refine M_gi mb (Or.inr rfl) (show _ = (0 : Int32) from rfl) eX2_factor_59 fl_X2_81_2 ?_
        refine V_ifeq eX2_factor_62 (fun c62 => ?_) (fun c62 => absurd c62 (by decide))
        refine V_iconst (v := 1) (by decide) eX2_factor_69 ?_
        refine V_iadd eX2_factor_70 ?_
        refine M_pi mb (Or.inl rfl) rfl eX2_factor_71 fl_X2_75_2 ?_
        rw [show ((nI sp) + (1 : Int32)) = nI (sp + 1) from (zadd rfl rfl)]
        rw [ms_extF (show va_up (va_up (va_up (va_up F 5 (nI sp)) 6 (0 : Int32)) 7 (nI (op + 1))) 5 (nI (sp + 1)) = (va_up (va_up (va_up F 5 (nI (sp + 1))) 6 (0 : Int32)) 7 (nI (op + 1))) from by
            funext q
            by_cases e5 : q = 5
            · subst e5; rfl
            by_cases e6 : q = 6
            · subst e6; rfl
            by_cases e7 : q = 7
            · subst e7; rfl
            simp only [va_up, if_neg e5, if_neg e6, if_neg e7])]
        refine V_aload0 eX2_factor_74 rfl ?_
        refine M_gi mb (Or.inr rfl) (show _ = (0 : Int32) from rfl) eX2_factor_75 fl_X2_81_2 ?_
        refine V_ifeq eX2_factor_78 (fun c78 => ?_) (fun c78 => absurd c78 (by decide))
        refine V_iload1 eX2_factor_85 ?_
        refine V_bipush (v := 33) (by decide) eX2_factor_86 ?_
        refine V_if_icmpne eX2_factor_88 (fun c88 => ?_) (fun c88 => absurd c88 c17)
        refine V_aload0 eX2_factor_106 rfl ?_
        refine M_call mb eX2_factor_107 lmX2_some q2067 q2069 rfl qs58 (IHs hne (sp := (sp + 1)) (by omega) (F := (va_up (va_up (va_up F 5 (nI (sp + 1))) 6 (0 : Int32)) 7 (nI (op + 1)))) hF4 (show _ = nI (sp + 1) from rfl) (show _ = 0 from rfl) (show _ = nI (op + 1) from rfl)) (zblt (by omega)) rfl rfl rfl ?_
        rw [ms_extF (show (va_up (va_up (va_up (va_up (va_up (va_up F 5 (nI (sp + 1))) 6 (0 : Int32)) 7 (nI (op + 1))) 5 (rs (sp + 1)).2.1) 6 (rs (sp + 1)).2.2) 7 (nI (op + 1))) = (va_up (va_up (va_up F 5 (rs (sp + 1)).2.1) 6 (rs (sp + 1)).2.2) 7 (nI (op + 1))) from by
            funext q
            by_cases e5 : q = 5
            · subst e5; rfl
            by_cases e6 : q = 6
            · subst e6; rfl
            by_cases e7 : q = 7
            · subst e7; rfl
            simp only [va_up, if_neg e5, if_neg e6, if_neg e7])]
        obtain ⟨s10, hs10, hs10a, hs10b, hs10w, hs10v⟩ := hrs (sp + 1) (by omega)
        have hs10c : ((rs (sp + 1)).2.1).toNatClampNeg = s10 := by rw [hs10]; exact nI_clamp (by omega)
        rw [hs10]
        refine V_istore2 rfl eX2_factor_110 rfl ?_
        refine V_iload1 eX2_factor_111 ?_
        refine V_bipush (v := 40) (by decide) eX2_factor_112 ?_
        refine V_if_icmpne eX2_factor_114 (fun c114 => absurd c23 c114) (fun c114 => ?_)
        refine V_aload0 eX2_factor_117 rfl ?_
        refine V_bipush (v := 41) (by decide) eX2_factor_118 ?_
        refine M_callU mb eX2_factor_120 lmX2_must q2079 q2081 rfl qs61 (c_must mb (F := (va_up (va_up (va_up F 5 (nI s10)) 6 (rs (sp + 1)).2.2) 7 (nI (op + 1)))) (41 : Int32) (a := a) (sp := s10) (ln := ln) hF4 ha (show _ = nI s10 from rfl) (by omega) hln hln4 (by decide)) (zblt (by omega)) rfl rfl rfl ?_
        rw [ms_extF (show (va_up (va_up (va_up (va_up (va_up F 5 (nI s10)) 6 (rs (sp + 1)).2.2) 7 (nI (op + 1))) 5 (o_must S (va_up (va_up (va_up F 5 (nI s10)) 6 (rs (sp + 1)).2.2) 7 (nI (op + 1))) a s10 ln (41 : Int32)).1) 6 (o_must S (va_up (va_up (va_up F 5 (nI s10)) 6 (rs (sp + 1)).2.2) 7 (nI (op + 1))) a s10 ln (41 : Int32)).2) = (va_up (va_up (va_up F 5 (o_must S (va_up (va_up (va_up F 5 (nI s10)) 6 (rs (sp + 1)).2.2) 7 (nI (op + 1))) a s10 ln (41 : Int32)).1) 6 (o_must S (va_up (va_up (va_up F 5 (nI s10)) 6 (rs (sp + 1)).2.2) 7 (nI (op + 1))) a s10 ln (41 : Int32)).2) 7 (nI (op + 1))) from by
            funext q
            by_cases e5 : q = 5
            · subst e5; rfl
            by_cases e6 : q = 6
            · subst e6; rfl
            by_cases e7 : q = 7
            · subst e7; rfl
            simp only [va_up, if_neg e5, if_neg e6, if_neg e7])]
        obtain ⟨s11, hs11, hs11a, hs11b, hs11w, hs11v⟩ := must_ok (S := S) (F := (va_up (va_up (va_up F 5 (nI s10)) 6 (rs (sp + 1)).2.2) 7 (nI (op + 1)))) (a := a) (sp := s10) (ln := ln) (c := (41 : Int32)) (by omega) hln4 (by decide)
        have hs11c : ((o_must S (va_up (va_up (va_up F 5 (nI s10)) 6 (rs (sp + 1)).2.2) 7 (nI (op + 1))) a s10 ln (41 : Int32)).1).toNatClampNeg = s11 := by rw [hs11]; exact nI_clamp (by omega)
        rw [hs11]
        refine V_aload0 eX2_factor_123 rfl ?_
        refine V_dup rfl eX2_factor_124 ?_
        refine M_gi mb (Or.inl rfl) (show _ = (nI (op + 1)) from rfl) eX2_factor_125 fl_X2_116_2 ?_
        refine V_iconst (v := 1) (by decide) eX2_factor_128 ?_
        refine V_isub eX2_factor_129 ?_
        refine M_pi mb (Or.inl rfl) rfl eX2_factor_130 fl_X2_116_2 ?_
        rw [show ((nI (op + 1)) - (1 : Int32)) = nI op from (zsub1 rfl)]
        rw [ms_extF (show va_up (va_up (va_up (va_up F 5 (nI s11)) 6 (o_must S (va_up (va_up (va_up F 5 (nI s10)) 6 (rs (sp + 1)).2.2) 7 (nI (op + 1))) a s10 ln (41 : Int32)).2) 7 (nI (op + 1))) 7 (nI op) = (va_up (va_up (va_up F 5 (nI s11)) 6 (o_must S (va_up (va_up (va_up F 5 (nI s10)) 6 (rs (sp + 1)).2.2) 7 (nI (op + 1))) a s10 ln (41 : Int32)).2) 7 (nI op)) from by
            funext q
            by_cases e5 : q = 5
            · subst e5; rfl
            by_cases e6 : q = 6
            · subst e6; rfl
            by_cases e7 : q = 7
            · subst e7; rfl
            simp only [va_up, if_neg e5, if_neg e6, if_neg e7])]
        refine V_iload2 eX2_factor_133 ?_
        have hE : ((rs (sp + 1)).1, (nI s11), (o_must S (va_up (va_up (va_up F 5 (nI s10)) 6 (rs (sp + 1)).2.2) 7 (nI (op + 1))) a s10 ln (41 : Int32)).2) = o_factorS S A F a sp ln rf rs op := by simp only [o_factorS, hs10c, hs11c, if_neg c17, if_pos c23, if_neg c32]
        exact V_zreturn eX2_factor_134 rfl hs10v (by rw [← hE]; exact ⟨rfl, rfl⟩)
      · refine V_iconst (v := 1) (by decide) eX2_factor_35 ?_
        refine V_goto eX2_factor_36 ?_
        refine M_pz mb (Or.inl rfl) rfl (by decide) eX2_factor_40 fl_X2_81_2 ?_
        rw [ms_extF (show va_up (va_up (va_up (va_up F 5 (nI sp)) 6 (0 : Int32)) 7 (nI op)) 6 (1 : Int32) = (va_up (va_up (va_up F 5 (nI sp)) 6 (1 : Int32)) 7 (nI op)) from by
            funext q
            by_cases e5 : q = 5
            · subst e5; rfl
            by_cases e6 : q = 6
            · subst e6; rfl
            by_cases e7 : q = 7
            · subst e7; rfl
            simp only [va_up, if_neg e5, if_neg e6, if_neg e7])]
        refine V_aload0 eX2_factor_43 rfl ?_
        refine V_dup rfl eX2_factor_44 ?_
        refine M_gi mb (Or.inl rfl) (show _ = (nI op) from rfl) eX2_factor_45 fl_X2_116_2 ?_
        refine V_iconst (v := 1) (by decide) eX2_factor_48 ?_
        refine V_iadd eX2_factor_49 ?_
        refine M_pi mb (Or.inl rfl) rfl eX2_factor_50 fl_X2_116_2 ?_
        rw [show ((nI op) + (1 : Int32)) = nI (op + 1) from (zadd rfl rfl)]
        rw [ms_extF (show va_up (va_up (va_up (va_up F 5 (nI sp)) 6 (1 : Int32)) 7 (nI op)) 7 (nI (op + 1)) = (va_up (va_up (va_up F 5 (nI sp)) 6 (1 : Int32)) 7 (nI (op + 1))) from by
            funext q
            by_cases e5 : q = 5
            · subst e5; rfl
            by_cases e6 : q = 6
            · subst e6; rfl
            by_cases e7 : q = 7
            · subst e7; rfl
            simp only [va_up, if_neg e5, if_neg e6, if_neg e7])]
        refine V_aload0 eX2_factor_53 rfl ?_
        refine V_dup rfl eX2_factor_54 ?_
        refine M_gi mb (Or.inl rfl) (show _ = (nI sp) from rfl) eX2_factor_55 fl_X2_75_2 ?_
        refine V_aload0 eX2_factor_58 rfl ?_
        refine M_gi mb (Or.inr rfl) (show _ = (1 : Int32) from rfl) eX2_factor_59 fl_X2_81_2 ?_
        refine V_ifeq eX2_factor_62 (fun c62 => absurd c62 (by decide)) (fun c62 => ?_)
        refine V_iconst (v := 0) (by decide) eX2_factor_65 ?_
        refine V_goto eX2_factor_66 ?_
        refine V_iadd eX2_factor_70 ?_
        refine M_pi mb (Or.inl rfl) rfl eX2_factor_71 fl_X2_75_2 ?_
        rw [show ((nI sp) + (0 : Int32)) = nI (sp + 0) from (zadd rfl rfl)]
        rw [ms_extF (show va_up (va_up (va_up (va_up F 5 (nI sp)) 6 (1 : Int32)) 7 (nI (op + 1))) 5 (nI (sp + 0)) = (va_up (va_up (va_up F 5 (nI (sp + 0))) 6 (1 : Int32)) 7 (nI (op + 1))) from by
            funext q
            by_cases e5 : q = 5
            · subst e5; rfl
            by_cases e6 : q = 6
            · subst e6; rfl
            by_cases e7 : q = 7
            · subst e7; rfl
            simp only [va_up, if_neg e5, if_neg e6, if_neg e7])]
        refine V_aload0 eX2_factor_74 rfl ?_
        refine M_gi mb (Or.inr rfl) (show _ = (1 : Int32) from rfl) eX2_factor_75 fl_X2_81_2 ?_
        refine V_ifeq eX2_factor_78 (fun c78 => absurd c78 (by decide)) (fun c78 => ?_)
        refine V_iconst (v := 0) (by decide) eX2_factor_81 ?_
        refine V_goto eX2_factor_82 ?_
        refine V_istore2 rfl eX2_factor_110 rfl ?_
        refine V_iload1 eX2_factor_111 ?_
        refine V_bipush (v := 40) (by decide) eX2_factor_112 ?_
        refine V_if_icmpne eX2_factor_114 (fun c114 => absurd c23 c114) (fun c114 => ?_)
        refine V_aload0 eX2_factor_117 rfl ?_
        refine V_bipush (v := 41) (by decide) eX2_factor_118 ?_
        refine M_callU mb eX2_factor_120 lmX2_must q2079 q2081 rfl qs61 (c_must mb (F := (va_up (va_up (va_up F 5 (nI (sp + 0))) 6 (1 : Int32)) 7 (nI (op + 1)))) (41 : Int32) (a := a) (sp := (sp + 0)) (ln := ln) hF4 ha (show _ = nI (sp + 0) from rfl) (by omega) hln hln4 (by decide)) (zblt (by omega)) rfl rfl rfl ?_
        rw [ms_extF (show (va_up (va_up (va_up (va_up (va_up F 5 (nI (sp + 0))) 6 (1 : Int32)) 7 (nI (op + 1))) 5 (o_must S (va_up (va_up (va_up F 5 (nI (sp + 0))) 6 (1 : Int32)) 7 (nI (op + 1))) a (sp + 0) ln (41 : Int32)).1) 6 (o_must S (va_up (va_up (va_up F 5 (nI (sp + 0))) 6 (1 : Int32)) 7 (nI (op + 1))) a (sp + 0) ln (41 : Int32)).2) = (va_up (va_up (va_up F 5 (o_must S (va_up (va_up (va_up F 5 (nI (sp + 0))) 6 (1 : Int32)) 7 (nI (op + 1))) a (sp + 0) ln (41 : Int32)).1) 6 (o_must S (va_up (va_up (va_up F 5 (nI (sp + 0))) 6 (1 : Int32)) 7 (nI (op + 1))) a (sp + 0) ln (41 : Int32)).2) 7 (nI (op + 1))) from by
            funext q
            by_cases e5 : q = 5
            · subst e5; rfl
            by_cases e6 : q = 6
            · subst e6; rfl
            by_cases e7 : q = 7
            · subst e7; rfl
            simp only [va_up, if_neg e5, if_neg e6, if_neg e7])]
        obtain ⟨s12, hs12, hs12a, hs12b, hs12w, hs12v⟩ := must_ok (S := S) (F := (va_up (va_up (va_up F 5 (nI (sp + 0))) 6 (1 : Int32)) 7 (nI (op + 1)))) (a := a) (sp := (sp + 0)) (ln := ln) (c := (41 : Int32)) (by omega) hln4 (by decide)
        have hs12c : ((o_must S (va_up (va_up (va_up F 5 (nI (sp + 0))) 6 (1 : Int32)) 7 (nI (op + 1))) a (sp + 0) ln (41 : Int32)).1).toNatClampNeg = s12 := by rw [hs12]; exact nI_clamp (by omega)
        rw [hs12]
        refine V_aload0 eX2_factor_123 rfl ?_
        refine V_dup rfl eX2_factor_124 ?_
        refine M_gi mb (Or.inl rfl) (show _ = (nI (op + 1)) from rfl) eX2_factor_125 fl_X2_116_2 ?_
        refine V_iconst (v := 1) (by decide) eX2_factor_128 ?_
        refine V_isub eX2_factor_129 ?_
        refine M_pi mb (Or.inl rfl) rfl eX2_factor_130 fl_X2_116_2 ?_
        rw [show ((nI (op + 1)) - (1 : Int32)) = nI op from (zsub1 rfl)]
        rw [ms_extF (show va_up (va_up (va_up (va_up F 5 (nI s12)) 6 (o_must S (va_up (va_up (va_up F 5 (nI (sp + 0))) 6 (1 : Int32)) 7 (nI (op + 1))) a (sp + 0) ln (41 : Int32)).2) 7 (nI (op + 1))) 7 (nI op) = (va_up (va_up (va_up F 5 (nI s12)) 6 (o_must S (va_up (va_up (va_up F 5 (nI (sp + 0))) 6 (1 : Int32)) 7 (nI (op + 1))) a (sp + 0) ln (41 : Int32)).2) 7 (nI op)) from by
            funext q
            by_cases e5 : q = 5
            · subst e5; rfl
            by_cases e6 : q = 6
            · subst e6; rfl
            by_cases e7 : q = 7
            · subst e7; rfl
            simp only [va_up, if_neg e5, if_neg e6, if_neg e7])]
        refine V_iload2 eX2_factor_133 ?_
        have hE : ((0 : Int32), (nI s12), (o_must S (va_up (va_up (va_up F 5 (nI (sp + 0))) 6 (1 : Int32)) 7 (nI (op + 1))) a (sp + 0) ln (41 : Int32)).2) = o_factorS S A F a sp ln rf rs op := by simp only [o_factorS, hs12c, if_neg c17, if_pos c23, if_pos c32]
        exact V_zreturn eX2_factor_134 rfl (by decide) (by rw [← hE]; exact ⟨rfl, rfl⟩)

