theorem c_let {w : Wd} {h : Hp} {m : Nat} {ad : Nat → Nat} {A : Nat → Nat → Int32} {B : Nat → Nat → Int64} {F S : Nat → Int32} (mb : MB h m ad) (b : Nat) (day : Int32) {np : Nat} (hnp : S 2 = nI np) (hnp60 : np ≤ 60) {no : Nat} (ho : Ior S no) (hcl : Icl S no) (hb : b < 60) (hbl : Ibl S b) : ∃ (R : Nat → Int32) (f4 f5 f6 f7 : Int32), Con w mX2_canBeLet cX2_canBeLet 23 0 0 [.ref m, .int (nI b), .int day] (ms h A B F S) (Rv (.int (zlet S b day)) (ms h (va_up A 8 R) B (va_up (va_up (va_up (va_up F 4 f4) 5 f5) 6 f6) 7 f7) S)) := by
  have h1 := c_canBeLet (w := w) (A := A) (B := B) (F := F) mb b day hnp hnp60 ho hcl hb hbl
  rw [let_A] at h1
  exact ⟨_, _, _, _, _, h1⟩
def Hbl (S : Nat → Int32) (np : Nat) : Prop := ∀ b, b < np → S (370 + b) = 3 → Ibl S b
theorem Iw_up {S : Nat → Int32} {p wl i : Nat} {v : Int32} (h : Iw S p wl) (hp : p < 60) (hi : i < 850) : Iw (va_up S i v) p wl := by
  refine ⟨by rw [va_up_ne _ _ (by omega)]; exact h.1, h.2.1, fun k hk => ?_⟩
  have := h.2.2 k hk
  unfold wc sn at this ⊢
  rw [va_up_ne _ _ (by omega)]
  exact this

def o_hear (S : Nat → Int32) (p : Int32) (day : Int32) : Int32 :=
  if (bI (zof S p (3 : Int32))) = 0 then
    (-1 : Int32)
  else
    let b := p.toNatClampNeg
    if (zin day 0 999) = 0 then
      (-2 : Int32)
    else
      if (zlet S b day) = 0 then
        (0 : Int32)
      else
        (1 : Int32)
theorem c_hear {w : Wd} {h : Hp} {m : Nat} {ad : Nat → Nat} {A : Nat → Nat → Int32} {B : Nat → Nat → Int64} {F S : Nat → Int32} (mb : MB h m ad) (p : Int32) (day : Int32) {np : Nat} (hnp : S 2 = nI np) (hnp60 : np ≤ 60) {no : Nat} (ho : Ior S no) (hcl : Icl S no) (hbl : Hbl S np) : Con w mX2_hear cX2_hear 24 0 0 [.ref m, .int p, .int day] (ms h A B F S) (Rm (o_hear S p day) h A F S) := by
  refine Con.of (by decide +kernel) rfl rfl ?_
  show V w mX2_hear cX2_hear 24 0 0 _ 0 [some (.ref m), some (.int p), some (.int day)] [] _
  rw [ms_extA (show A = (va_up A 8 (A 8)) from by
    funext q
    by_cases e8 : q = 8
    · subst e8; rfl
    simp only [va_up, if_neg e8])]
  rw [ms_extF (show F = (va_up (va_up (va_up (va_up F 4 (F 4)) 5 (F 5)) 6 (F 6)) 7 (F 7)) from by
    funext q
    by_cases e4 : q = 4
    · subst e4; rfl
    by_cases e5 : q = 5
    · subst e5; rfl
    by_cases e6 : q = 6
    · subst e6; rfl
    by_cases e7 : q = 7
    · subst e7; rfl
    simp only [va_up, if_neg e4, if_neg e5, if_neg e6, if_neg e7])]
  refine V_aload0 eX2_hear_0 rfl ?_
  refine V_iload1 eX2_hear_1 ?_
  refine V_iconst (v := 3) (by decide) eX2_hear_2 ?_
  refine M_call mb eX2_hear_3 lmX2_isOf q2119 q2121 rfl qs67 (c_isOf mb _ _ hnp hnp60) rfl rfl rfl rfl ?_
  refine V_ifne eX2_hear_6 (fun c6 => ?_) (fun c6 => ?_)
  · have hz := bI_n0.mp c6
    obtain ⟨b, hb, rfl, hk⟩ := zof_get hz hnp hnp60
    have hpc : (nI b).toNatClampNeg = b := nI_clamp (by omega)
    refine V_iload2 eX2_hear_13 ?_
    refine C0_static eX2_hear_14 lmX2_isDay q1994 q1995 (c_isDay _ _) rfl rfl rfl rfl ?_
    refine V_ifne eX2_hear_17 (fun c17 => ?_) (fun c17 => ?_)
    · refine V_aload0 eX2_hear_25 rfl ?_
      refine V_iload1 eX2_hear_26 ?_
      refine V_iload2 eX2_hear_27 ?_
      obtain ⟨JRj1, Jfj1a, Jfj1b, Jfj1c, Jfj1d, hconj1⟩ := c_let (w := w) (A := (va_up A 8 (A 8))) (B := B) (F := (va_up (va_up (va_up (va_up F 4 (F 4)) 5 (F 5)) 6 (F 6)) 7 (F 7))) (S := S) mb b day hnp hnp60 ho hcl (by omega) (hbl b hb hk)
      refine M_call mb eX2_hear_28 lmX2_canBeLet q2206 q2208 rfl qs78 hconj1 rfl rfl rfl rfl ?_
      rw [ms_extA (show va_up (va_up A 8 (A 8)) 8 JRj1 = (va_up A 8 JRj1) from by
          funext q
          by_cases e8 : q = 8
          · subst e8; rfl
          simp only [va_up, if_neg e8])]
      rw [ms_extF (show (va_up (va_up (va_up (va_up (va_up (va_up (va_up (va_up F 4 (F 4)) 5 (F 5)) 6 (F 6)) 7 (F 7)) 4 Jfj1a) 5 Jfj1b) 6 Jfj1c) 7 Jfj1d) = (va_up (va_up (va_up (va_up F 4 Jfj1a) 5 Jfj1b) 6 Jfj1c) 7 Jfj1d) from by
          funext q
          by_cases e4 : q = 4
          · subst e4; rfl
          by_cases e5 : q = 5
          · subst e5; rfl
          by_cases e6 : q = 6
          · subst e6; rfl
          by_cases e7 : q = 7
          · subst e7; rfl
          simp only [va_up, if_neg e4, if_neg e5, if_neg e6, if_neg e7])]
      refine V_ifeq eX2_hear_31 (fun c31 => ?_) (fun c31 => ?_)
      · refine V_iconst (v := 0) (by decide) eX2_hear_38 ?_
        have hE : (0 : Int32) = o_hear S (nI b) day := by simp only [o_hear, hpc, if_neg c6, if_neg c17, if_pos c31]
        exact V_ireturn eX2_hear_39 rfl (by rw [← hE]; exact ⟨rfl, _, _, _, (by rfl), (by rfl), rfl⟩)
      · refine V_iconst (v := 1) (by decide) eX2_hear_34 ?_
        refine V_goto eX2_hear_35 ?_
        have hE : (1 : Int32) = o_hear S (nI b) day := by simp only [o_hear, hpc, if_neg c6, if_neg c17, if_neg c31]
        exact V_ireturn eX2_hear_39 rfl (by rw [← hE]; exact ⟨rfl, _, _, _, (by rfl), (by rfl), rfl⟩)
    · refine V_bipush (v := -2) (by decide) eX2_hear_20 ?_
      refine V_goto eX2_hear_22 ?_
      have hE : (-2 : Int32) = o_hear S (nI b) day := by simp only [o_hear, hpc, if_neg c6, if_pos c17]
      exact V_ireturn eX2_hear_39 rfl (by rw [← hE]; exact ⟨rfl, _, _, _, (by rfl), (by rfl), rfl⟩)
  · refine V_iconst (v := -1) (by decide) eX2_hear_9 ?_
    refine V_goto eX2_hear_10 ?_
    have hE : (-1 : Int32) = o_hear S p day := by simp only [o_hear, if_pos c6]
    exact V_ireturn eX2_hear_39 rfl (by rw [← hE]; exact ⟨rfl, _, _, _, (by rfl), (by rfl), rfl⟩)

def K_grant_46 (S : Nat → Int32) (b : Nat) : Nat → Int32 → Int32 := fun u q46 =>
    if q46 = 0 then
      (0 : Int32)
    else
      if (bI (decide (S (370 + u) = 3) && decide (S (790 + u) = 1))) = 0 then
        (1 : Int32)
      else
        if (bI (decide (S (1100 + 60 * u + b) = 1))) = 0 then
          (1 : Int32)
        else
          (0 : Int32)
def o_grant (S : Nat → Int32) (np : Nat) (p : Int32) : Int32 × (Nat → Int32) :=
  if (bI (zof S p (3 : Int32))) = 0 then
    ((-1 : Int32), S)
  else
    let b := p.toNatClampNeg
    if (S (790 + b)) = 0 then
      if (zlet S b (S 0)) = 0 then
        let q46 := zfold (K_grant_46 S b) np (0 : Int32)
        if q46 = 0 then
          ((-3 : Int32), S)
        else
          let S_10 := va_up S (790 + b) (1 : Int32)
          let q := sn S (430 + b)
          let S_12 := va_up S_10 (970 + b) (zyards S_10 q)
          let S_15 := va_up S_12 (1030 + b) (-5 : Int32)
          ((zfold (fGr S_15) np 0), S_15)
      else
        let q46 := zfold (K_grant_46 S b) np (1 : Int32)
        if q46 = 0 then
          ((-3 : Int32), S)
        else
          let S_18 := va_up S (790 + b) (1 : Int32)
          let q := sn S (430 + b)
          let S_20 := va_up S_18 (970 + b) (zyards S_18 q)
          let S_23 := va_up S_20 (1030 + b) (-5 : Int32)
          ((zfold (fGr S_23) np 0), S_23)
    else
      let q46 := zfold (K_grant_46 S b) np (0 : Int32)
      if q46 = 0 then
        ((-3 : Int32), S)
      else
        let S_1 := va_up S (790 + b) (1 : Int32)
        let q := sn S (430 + b)
        let S_3 := va_up S_1 (970 + b) (zyards S_1 q)
        let S_6 := va_up S_3 (1030 + b) (-5 : Int32)
        ((zfold (fGr S_6) np 0), S_6)
theorem c_grant {w : Wd} {h : Hp} {m : Nat} {ad : Nat → Nat} {A : Nat → Nat → Int32} {B : Nat → Nat → Int64} {F S : Nat → Int32} (mb : MB h m ad) (p : Int32) {np : Nat} (hnp : S 2 = nI np) (hnp60 : np ≤ 60) {no : Nat} (ho : Ior S no) (hcl : Icl S no) (hbl : Hbl S np) : Con w mX2_grant cX2_grant 24 0 0 [.ref m, .int p] (ms h A B F S) (Rm (o_grant S np p).1 h A F (o_grant S np p).2) := by
  refine Con.of (by decide +kernel) rfl rfl ?_
  show V w mX2_grant cX2_grant 24 0 0 _ 0 [some (.ref m), some (.int p), none, none] [] _
  rw [ms_extA (show A = (va_up A 8 (A 8)) from by
    funext q
    by_cases e8 : q = 8
    · subst e8; rfl
    simp only [va_up, if_neg e8])]
  rw [ms_extF (show F = (va_up (va_up (va_up (va_up F 4 (F 4)) 5 (F 5)) 6 (F 6)) 7 (F 7)) from by
    funext q
    by_cases e4 : q = 4
    · subst e4; rfl
    by_cases e5 : q = 5
    · subst e5; rfl
    by_cases e6 : q = 6
    · subst e6; rfl
    by_cases e7 : q = 7
    · subst e7; rfl
    simp only [va_up, if_neg e4, if_neg e5, if_neg e6, if_neg e7])]
  refine V_aload0 eX2_grant_0 rfl ?_
  refine V_iload1 eX2_grant_1 ?_
  refine V_iconst (v := 3) (by decide) eX2_grant_2 ?_
  refine M_call mb eX2_grant_3 lmX2_isOf q2119 q2121 rfl qs67 (c_isOf mb _ _ hnp hnp60) rfl rfl rfl rfl ?_
  refine V_ifne eX2_grant_6 (fun c6 => ?_) (fun c6 => ?_)
  · have hz := bI_n0.mp c6
    obtain ⟨b, hb, rfl, hk⟩ := zof_get hz hnp hnp60
    have hpc : (nI b).toNatClampNeg = b := nI_clamp (by omega)
    refine V_aload0 eX2_grant_11 rfl ?_
    refine M_ga mb rfl eX2_grant_12 fl_X2_8_2 ?_
    refine V_sipush (v := 790) (by decide) eX2_grant_15 ?_
    refine V_iload1 eX2_grant_18 ?_
    refine V_iadd eX2_grant_19 ?_
    refine M_sl (n := (790 + b)) mb (zadd rfl rfl) (by omega) rfl eX2_grant_20 ?_
    refine V_ifne eX2_grant_21 (fun c21 => ?_) (fun c21 => ?_)
    · refine V_iconst (v := 0) (by decide) eX2_grant_42 ?_
      refine V_istore2 rfl eX2_grant_43 rfl ?_
      refine V_iconst (v := 0) (by decide) eX2_grant_44 ?_
      refine V_istore3 rfl eX2_grant_45 rfl ?_
      refine V.le (zle_c (zle_c (zle_c (zle_c zle_0)))) (zloop (P := fun u => ∀ q46 : Int32, q46 = zfold (K_grant_46 S b) u (0 : Int32) → V w mX2_grant cX2_grant 24 0 0 (ms h (va_up A 8 (A 8)) B (va_up (va_up (va_up (va_up F 4 (F 4)) 5 (F 5)) 6 (F 6)) 7 (F 7)) S) 46 [some (.ref m), some (.int (nI b)), some (.int q46), some (.int (nI u))] [] _) np (fun u hu ih46 q46  hq46  => ?_) 0 (Nat.zero_le _) (0 : Int32)  rfl )
      refine V_iload3 eX2_grant_46 ?_
      refine V_aload0 eX2_grant_47 rfl ?_
      refine M_ga mb rfl eX2_grant_48 fl_X2_8_2 ?_
      refine V_iconst (v := 2) (by decide) eX2_grant_51 ?_
      refine M_sl (n := 2) mb rfl (by omega) hnp eX2_grant_52 ?_
      refine V_if_icmpge eX2_grant_53 (fun c53 => ?_) (fun c53 => ?_)
      · have e46 : u = np := by have := nle c53 (by omega) (by omega); omega
        rw [e46] at hq46
        refine V_iload2 eX2_grant_89 ?_
        refine V_ifne eX2_grant_90 (fun c90 => ?_) (fun c90 => ?_)
        · refine V_aload0 eX2_grant_96 rfl ?_
          refine M_ga mb rfl eX2_grant_97 fl_X2_8_2 ?_
          refine V_sipush (v := 790) (by decide) eX2_grant_100 ?_
          refine V_iload1 eX2_grant_103 ?_
          refine V_iadd eX2_grant_104 ?_
          refine V_iconst (v := 1) (by decide) eX2_grant_105 ?_
          refine M_ss (n := (790 + b)) mb (zadd rfl rfl) (by omega) eX2_grant_106 ?_
          obtain ⟨S_1, hS_1⟩ : ∃ T, T = va_up S (790 + b) (1 : Int32) := ⟨_, rfl⟩
          rw [← hS_1]
          have hnp_2 : S_1 2 = (nI np) := by rw [hS_1]; exact rdn (by omega) hnp
          obtain ⟨q, wl, ta, tb, hof, hq, hw, hta, hta6, htb, htb6⟩ := hbl b hb hk
          have hof2 : S_1 (430 + b) = nI q := by rw [hS_1, va_up_ne _ _ (by omega)]; exact hof
          have hw2 : Iw S_1 q wl := by rw [hS_1]; exact Iw_up hw hq (by omega)
          have hc_q : sn S (430 + b) = q := sn_of hof (by omega)
          refine V_aload0 eX2_grant_107 rfl ?_
          refine M_ga mb rfl eX2_grant_108 fl_X2_8_2 ?_
          refine V_sipush (v := 970) (by decide) eX2_grant_111 ?_
          refine V_iload1 eX2_grant_114 ?_
          refine V_iadd eX2_grant_115 ?_
          refine V_aload0 eX2_grant_116 rfl ?_
          refine V_aload0 eX2_grant_117 rfl ?_
          refine M_ga mb rfl eX2_grant_118 fl_X2_8_2 ?_
          refine V_sipush (v := 430) (by decide) eX2_grant_121 ?_
          refine V_iload1 eX2_grant_124 ?_
          refine V_iadd eX2_grant_125 ?_
          refine M_sl (n := (430 + b)) mb (zadd rfl rfl) (by omega) hof2 eX2_grant_126 ?_
          refine M_call mb eX2_grant_127 lmX2_yardsOf q2151 q2153 rfl qs72 (c_yardsOf mb (p := q) (wl := wl) hq hw2) rfl rfl rfl rfl ?_
          refine M_ss (n := (970 + b)) mb (zadd rfl rfl) (by omega) eX2_grant_130 ?_
          obtain ⟨S_3, hS_3⟩ : ∃ T, T = va_up S_1 (970 + b) (zyards S_1 q) := ⟨_, rfl⟩
          rw [← hS_3]
          have hnp_4 : S_3 2 = (nI np) := by rw [hS_3]; exact rdn (by omega) hnp_2
          have hof_5 : S_3 (430 + b) = (nI q) := by rw [hS_3]; exact rdn (by omega) hof2
          refine V_aload0 eX2_grant_131 rfl ?_
          refine M_ga mb rfl eX2_grant_132 fl_X2_8_2 ?_
          refine V_sipush (v := 1030) (by decide) eX2_grant_135 ?_
          refine V_iload1 eX2_grant_138 ?_
          refine V_iadd eX2_grant_139 ?_
          refine V_bipush (v := -5) (by decide) eX2_grant_140 ?_
          refine M_ss (n := (1030 + b)) mb (zadd rfl rfl) (by omega) eX2_grant_142 ?_
          obtain ⟨S_6, hS_6⟩ : ∃ T, T = va_up S_3 (1030 + b) (-5 : Int32) := ⟨_, rfl⟩
          rw [← hS_6]
          have hnp_7 : S_6 2 = (nI np) := by rw [hS_6]; exact rdn (by omega) hnp_4
          have hof_8 : S_6 (430 + b) = (nI q) := by rw [hS_6]; exact rdn (by omega) hof_5
          refine V_aload0 eX2_grant_143 rfl ?_
          refine M_call mb eX2_grant_144 lmX2_granted q2234 q2236 rfl qs83 (c_granted mb hnp_7 hnp60) rfl rfl rfl rfl ?_
          have hE : ((zfold (fGr S_6) np 0), S_6) = o_grant S np (nI b) := by simp only [o_grant, ← hq46, ← hS_1, ← hS_3, ← hS_6, hpc, hc_q, if_neg c6, if_neg c21, if_neg c90]
          exact V_ireturn eX2_grant_147 rfl (by rw [← hE]; exact ⟨rfl, _, _, _, (by rfl), (by rfl), rfl⟩)
        · refine V_bipush (v := -3) (by decide) eX2_grant_93 ?_
          have hE : ((-3 : Int32), S) = o_grant S np (nI b) := by simp only [o_grant, ← hq46, hpc, if_neg c6, if_neg c21, if_pos c90]
          exact V_ireturn eX2_grant_95 rfl (by rw [← hE]; exact ⟨rfl, _, _, _, (by rfl), (by rfl), rfl⟩)
      · have hl46 : u < np := by have := nnle c53 (by omega) (by omega); omega
        refine V_iload2 eX2_grant_56 ?_
        refine V_ifeq eX2_grant_57 (fun c57 => ?_) (fun c57 => ?_)
        · refine V_iconst (v := 0) (by decide) eX2_grant_81 ?_
          refine V_istore2 rfl eX2_grant_82 rfl ?_
          refine V_iincN3 rfl eX2_grant_83 rfl ?_
          refine V_goto eX2_grant_86 ?_
          exact V.le (zle_c (zle_c (zle_c (zle_c zle_0)))) (ih46 hl46 (0 : Int32)  (by rw [zfold_s (n := u), ← hq46]; simp only [K_grant_46, hpc, if_pos c57])  )
        · refine V_aload0 eX2_grant_60 rfl ?_
          refine V_iload3 eX2_grant_61 ?_
          refine M_call mb eX2_grant_62 lmX2_isGranted q2230 q2232 rfl qs82 (c_isGranted mb (p := u) (by omega)) rfl rfl rfl rfl ?_
          refine V_ifeq eX2_grant_65 (fun c65 => ?_) (fun c65 => ?_)
          · refine V_iconst (v := 1) (by decide) eX2_grant_77 ?_
            refine V_goto eX2_grant_78 ?_
            refine V_istore2 rfl eX2_grant_82 rfl ?_
            refine V_iincN3 rfl eX2_grant_83 rfl ?_
            refine V_goto eX2_grant_86 ?_
            exact V.le (zle_c (zle_c (zle_c (zle_c zle_0)))) (ih46 hl46 (1 : Int32)  (by rw [zfold_s (n := u), ← hq46]; simp only [K_grant_46, hpc, if_neg c57, if_pos c65])  )
          · refine V_aload0 eX2_grant_68 rfl ?_
            refine V_iload3 eX2_grant_69 ?_
            refine V_iload1 eX2_grant_70 ?_
            refine M_call mb eX2_grant_71 lmX2_isBarred q2222 q2224 rfl qs81 (c_isBarred mb (a := u) (b := b) (by omega) (by omega)) rfl rfl rfl rfl ?_
            refine V_ifne eX2_grant_74 (fun c74 => ?_) (fun c74 => ?_)
            · refine V_iconst (v := 0) (by decide) eX2_grant_81 ?_
              refine V_istore2 rfl eX2_grant_82 rfl ?_
              refine V_iincN3 rfl eX2_grant_83 rfl ?_
              refine V_goto eX2_grant_86 ?_
              exact V.le (zle_c (zle_c (zle_c (zle_c zle_0)))) (ih46 hl46 (0 : Int32)  (by rw [zfold_s (n := u), ← hq46]; simp only [K_grant_46, hpc, if_neg c57, if_neg c65, if_neg c74])  )
            · refine V_iconst (v := 1) (by decide) eX2_grant_77 ?_
              refine V_goto eX2_grant_78 ?_
              refine V_istore2 rfl eX2_grant_82 rfl ?_
              refine V_iincN3 rfl eX2_grant_83 rfl ?_
              refine V_goto eX2_grant_86 ?_
              exact V.le (zle_c (zle_c (zle_c (zle_c zle_0)))) (ih46 hl46 (1 : Int32)  (by rw [zfold_s (n := u), ← hq46]; simp only [K_grant_46, hpc, if_neg c57, if_neg c65, if_pos c74])  )
    · refine V_aload0 eX2_grant_24 rfl ?_
      refine V_iload1 eX2_grant_25 ?_
      refine V_aload0 eX2_grant_26 rfl ?_
      refine M_ga mb rfl eX2_grant_27 fl_X2_8_2 ?_
      refine V_iconst (v := 0) (by decide) eX2_grant_30 ?_
      refine M_sl (n := 0) mb rfl (by omega) rfl eX2_grant_31 ?_
      obtain ⟨JRj9, Jfj9a, Jfj9b, Jfj9c, Jfj9d, hconj9⟩ := c_let (w := w) (A := (va_up A 8 (A 8))) (B := B) (F := (va_up (va_up (va_up (va_up F 4 (F 4)) 5 (F 5)) 6 (F 6)) 7 (F 7))) (S := S) mb b (S 0) hnp hnp60 ho hcl (by omega) (hbl b hb hk)
      refine M_call mb eX2_grant_32 lmX2_canBeLet q2206 q2208 rfl qs78 hconj9 rfl rfl rfl rfl ?_
      rw [ms_extA (show va_up (va_up A 8 (A 8)) 8 JRj9 = (va_up A 8 JRj9) from by
          funext q
          by_cases e8 : q = 8
          · subst e8; rfl
          simp only [va_up, if_neg e8])]
      rw [ms_extF (show (va_up (va_up (va_up (va_up (va_up (va_up (va_up (va_up F 4 (F 4)) 5 (F 5)) 6 (F 6)) 7 (F 7)) 4 Jfj9a) 5 Jfj9b) 6 Jfj9c) 7 Jfj9d) = (va_up (va_up (va_up (va_up F 4 Jfj9a) 5 Jfj9b) 6 Jfj9c) 7 Jfj9d) from by
          funext q
          by_cases e4 : q = 4
          · subst e4; rfl
          by_cases e5 : q = 5
          · subst e5; rfl
          by_cases e6 : q = 6
          · subst e6; rfl
          by_cases e7 : q = 7
          · subst e7; rfl
          simp only [va_up, if_neg e4, if_neg e5, if_neg e6, if_neg e7])]
      refine V_ifeq eX2_grant_35 (fun c35 => ?_) (fun c35 => ?_)
      · refine V_iconst (v := 0) (by decide) eX2_grant_42 ?_
        refine V_istore2 rfl eX2_grant_43 rfl ?_
        refine V_iconst (v := 0) (by decide) eX2_grant_44 ?_
        refine V_istore3 rfl eX2_grant_45 rfl ?_
        refine V.le (zle_c (zle_c (zle_c (zle_c zle_0)))) (zloop (P := fun u => ∀ q46 : Int32, q46 = zfold (K_grant_46 S b) u (0 : Int32) → V w mX2_grant cX2_grant 24 0 0 (ms h (va_up A 8 JRj9) B (va_up (va_up (va_up (va_up F 4 Jfj9a) 5 Jfj9b) 6 Jfj9c) 7 Jfj9d) S) 46 [some (.ref m), some (.int (nI b)), some (.int q46), some (.int (nI u))] [] _) np (fun u hu ih46 q46  hq46  => ?_) 0 (Nat.zero_le _) (0 : Int32)  rfl )
        refine V_iload3 eX2_grant_46 ?_
        refine V_aload0 eX2_grant_47 rfl ?_
        refine M_ga mb rfl eX2_grant_48 fl_X2_8_2 ?_
        refine V_iconst (v := 2) (by decide) eX2_grant_51 ?_
        refine M_sl (n := 2) mb rfl (by omega) hnp eX2_grant_52 ?_
        refine V_if_icmpge eX2_grant_53 (fun c53 => ?_) (fun c53 => ?_)
        · have e46 : u = np := by have := nle c53 (by omega) (by omega); omega
          rw [e46] at hq46
          refine V_iload2 eX2_grant_89 ?_
          refine V_ifne eX2_grant_90 (fun c90 => ?_) (fun c90 => ?_)
          · refine V_aload0 eX2_grant_96 rfl ?_
            refine M_ga mb rfl eX2_grant_97 fl_X2_8_2 ?_
            refine V_sipush (v := 790) (by decide) eX2_grant_100 ?_
            refine V_iload1 eX2_grant_103 ?_
            refine V_iadd eX2_grant_104 ?_
            refine V_iconst (v := 1) (by decide) eX2_grant_105 ?_
            refine M_ss (n := (790 + b)) mb (zadd rfl rfl) (by omega) eX2_grant_106 ?_
            obtain ⟨S_10, hS_10⟩ : ∃ T, T = va_up S (790 + b) (1 : Int32) := ⟨_, rfl⟩
            rw [← hS_10]
            have hnp_11 : S_10 2 = (nI np) := by rw [hS_10]; exact rdn (by omega) hnp
            obtain ⟨q, wl, ta, tb, hof, hq, hw, hta, hta6, htb, htb6⟩ := hbl b hb hk
            have hof2 : S_10 (430 + b) = nI q := by rw [hS_10, va_up_ne _ _ (by omega)]; exact hof
            have hw2 : Iw S_10 q wl := by rw [hS_10]; exact Iw_up hw hq (by omega)
            have hc_q : sn S (430 + b) = q := sn_of hof (by omega)
            refine V_aload0 eX2_grant_107 rfl ?_
            refine M_ga mb rfl eX2_grant_108 fl_X2_8_2 ?_
            refine V_sipush (v := 970) (by decide) eX2_grant_111 ?_
            refine V_iload1 eX2_grant_114 ?_
            refine V_iadd eX2_grant_115 ?_
            refine V_aload0 eX2_grant_116 rfl ?_
            refine V_aload0 eX2_grant_117 rfl ?_
            refine M_ga mb rfl eX2_grant_118 fl_X2_8_2 ?_
            refine V_sipush (v := 430) (by decide) eX2_grant_121 ?_
            refine V_iload1 eX2_grant_124 ?_
            refine V_iadd eX2_grant_125 ?_
            refine M_sl (n := (430 + b)) mb (zadd rfl rfl) (by omega) hof2 eX2_grant_126 ?_
            refine M_call mb eX2_grant_127 lmX2_yardsOf q2151 q2153 rfl qs72 (c_yardsOf mb (p := q) (wl := wl) hq hw2) rfl rfl rfl rfl ?_
            refine M_ss (n := (970 + b)) mb (zadd rfl rfl) (by omega) eX2_grant_130 ?_
            obtain ⟨S_12, hS_12⟩ : ∃ T, T = va_up S_10 (970 + b) (zyards S_10 q) := ⟨_, rfl⟩
            rw [← hS_12]
            have hnp_13 : S_12 2 = (nI np) := by rw [hS_12]; exact rdn (by omega) hnp_11
            have hof_14 : S_12 (430 + b) = (nI q) := by rw [hS_12]; exact rdn (by omega) hof2
            refine V_aload0 eX2_grant_131 rfl ?_
            refine M_ga mb rfl eX2_grant_132 fl_X2_8_2 ?_
            refine V_sipush (v := 1030) (by decide) eX2_grant_135 ?_
            refine V_iload1 eX2_grant_138 ?_
            refine V_iadd eX2_grant_139 ?_
            refine V_bipush (v := -5) (by decide) eX2_grant_140 ?_
            refine M_ss (n := (1030 + b)) mb (zadd rfl rfl) (by omega) eX2_grant_142 ?_
            obtain ⟨S_15, hS_15⟩ : ∃ T, T = va_up S_12 (1030 + b) (-5 : Int32) := ⟨_, rfl⟩
            rw [← hS_15]
            have hnp_16 : S_15 2 = (nI np) := by rw [hS_15]; exact rdn (by omega) hnp_13
            have hof_17 : S_15 (430 + b) = (nI q) := by rw [hS_15]; exact rdn (by omega) hof_14
            refine V_aload0 eX2_grant_143 rfl ?_
            refine M_call mb eX2_grant_144 lmX2_granted q2234 q2236 rfl qs83 (c_granted mb hnp_16 hnp60) rfl rfl rfl rfl ?_
            have hE : ((zfold (fGr S_15) np 0), S_15) = o_grant S np (nI b) := by simp only [o_grant, ← hq46, ← hS_10, ← hS_12, ← hS_15, hpc, hc_q, if_neg c6, if_pos c21, if_pos c35, if_neg c90]
            exact V_ireturn eX2_grant_147 rfl (by rw [← hE]; exact ⟨rfl, _, _, _, (by rfl), (by rfl), rfl⟩)
          · refine V_bipush (v := -3) (by decide) eX2_grant_93 ?_
            have hE : ((-3 : Int32), S) = o_grant S np (nI b) := by simp only [o_grant, ← hq46, hpc, if_neg c6, if_pos c21, if_pos c35, if_pos c90]
            exact V_ireturn eX2_grant_95 rfl (by rw [← hE]; exact ⟨rfl, _, _, _, (by rfl), (by rfl), rfl⟩)
        · have hl46 : u < np := by have := nnle c53 (by omega) (by omega); omega
          refine V_iload2 eX2_grant_56 ?_
          refine V_ifeq eX2_grant_57 (fun c57 => ?_) (fun c57 => ?_)
          · refine V_iconst (v := 0) (by decide) eX2_grant_81 ?_
            refine V_istore2 rfl eX2_grant_82 rfl ?_
            refine V_iincN3 rfl eX2_grant_83 rfl ?_
            refine V_goto eX2_grant_86 ?_
            exact V.le (zle_c (zle_c (zle_c (zle_c zle_0)))) (ih46 hl46 (0 : Int32)  (by rw [zfold_s (n := u), ← hq46]; simp only [K_grant_46, hpc, if_pos c57])  )
          · refine V_aload0 eX2_grant_60 rfl ?_
            refine V_iload3 eX2_grant_61 ?_
            refine M_call mb eX2_grant_62 lmX2_isGranted q2230 q2232 rfl qs82 (c_isGranted mb (p := u) (by omega)) rfl rfl rfl rfl ?_
            refine V_ifeq eX2_grant_65 (fun c65 => ?_) (fun c65 => ?_)
            · refine V_iconst (v := 1) (by decide) eX2_grant_77 ?_
              refine V_goto eX2_grant_78 ?_
              refine V_istore2 rfl eX2_grant_82 rfl ?_
              refine V_iincN3 rfl eX2_grant_83 rfl ?_
              refine V_goto eX2_grant_86 ?_
              exact V.le (zle_c (zle_c (zle_c (zle_c zle_0)))) (ih46 hl46 (1 : Int32)  (by rw [zfold_s (n := u), ← hq46]; simp only [K_grant_46, hpc, if_neg c57, if_pos c65])  )
            · refine V_aload0 eX2_grant_68 rfl ?_
              refine V_iload3 eX2_grant_69 ?_
              refine V_iload1 eX2_grant_70 ?_
              refine M_call mb eX2_grant_71 lmX2_isBarred q2222 q2224 rfl qs81 (c_isBarred mb (a := u) (b := b) (by omega) (by omega)) rfl rfl rfl rfl ?_
              refine V_ifne eX2_grant_74 (fun c74 => ?_) (fun c74 => ?_)
              · refine V_iconst (v := 0) (by decide) eX2_grant_81 ?_
                refine V_istore2 rfl eX2_grant_82 rfl ?_
                refine V_iincN3 rfl eX2_grant_83 rfl ?_
                refine V_goto eX2_grant_86 ?_
                exact V.le (zle_c (zle_c (zle_c (zle_c zle_0)))) (ih46 hl46 (0 : Int32)  (by rw [zfold_s (n := u), ← hq46]; simp only [K_grant_46, hpc, if_neg c57, if_neg c65, if_neg c74])  )
              · refine V_iconst (v := 1) (by decide) eX2_grant_77 ?_
                refine V_goto eX2_grant_78 ?_
                refine V_istore2 rfl eX2_grant_82 rfl ?_
                refine V_iincN3 rfl eX2_grant_83 rfl ?_
                refine V_goto eX2_grant_86 ?_
                exact V.le (zle_c (zle_c (zle_c (zle_c zle_0)))) (ih46 hl46 (1 : Int32)  (by rw [zfold_s (n := u), ← hq46]; simp only [K_grant_46, hpc, if_neg c57, if_neg c65, if_pos c74])  )
      · refine V_iconst (v := 1) (by decide) eX2_grant_38 ?_
        refine V_goto eX2_grant_39 ?_
        refine V_istore2 rfl eX2_grant_43 rfl ?_
        refine V_iconst (v := 0) (by decide) eX2_grant_44 ?_
        refine V_istore3 rfl eX2_grant_45 rfl ?_
        refine V.le (zle_c (zle_c (zle_c (zle_c zle_0)))) (zloop (P := fun u => ∀ q46 : Int32, q46 = zfold (K_grant_46 S b) u (1 : Int32) → V w mX2_grant cX2_grant 24 0 0 (ms h (va_up A 8 JRj9) B (va_up (va_up (va_up (va_up F 4 Jfj9a) 5 Jfj9b) 6 Jfj9c) 7 Jfj9d) S) 46 [some (.ref m), some (.int (nI b)), some (.int q46), some (.int (nI u))] [] _) np (fun u hu ih46 q46  hq46  => ?_) 0 (Nat.zero_le _) (1 : Int32)  rfl )
        refine V_iload3 eX2_grant_46 ?_
        refine V_aload0 eX2_grant_47 rfl ?_
        refine M_ga mb rfl eX2_grant_48 fl_X2_8_2 ?_
        refine V_iconst (v := 2) (by decide) eX2_grant_51 ?_
        refine M_sl (n := 2) mb rfl (by omega) hnp eX2_grant_52 ?_
        refine V_if_icmpge eX2_grant_53 (fun c53 => ?_) (fun c53 => ?_)
        · have e46 : u = np := by have := nle c53 (by omega) (by omega); omega
          rw [e46] at hq46
          refine V_iload2 eX2_grant_89 ?_
          refine V_ifne eX2_grant_90 (fun c90 => ?_) (fun c90 => ?_)
          · refine V_aload0 eX2_grant_96 rfl ?_
            refine M_ga mb rfl eX2_grant_97 fl_X2_8_2 ?_
            refine V_sipush (v := 790) (by decide) eX2_grant_100 ?_
            refine V_iload1 eX2_grant_103 ?_
            refine V_iadd eX2_grant_104 ?_
            refine V_iconst (v := 1) (by decide) eX2_grant_105 ?_
            refine M_ss (n := (790 + b)) mb (zadd rfl rfl) (by omega) eX2_grant_106 ?_
            obtain ⟨S_18, hS_18⟩ : ∃ T, T = va_up S (790 + b) (1 : Int32) := ⟨_, rfl⟩
            rw [← hS_18]
            have hnp_19 : S_18 2 = (nI np) := by rw [hS_18]; exact rdn (by omega) hnp
            obtain ⟨q, wl, ta, tb, hof, hq, hw, hta, hta6, htb, htb6⟩ := hbl b hb hk
            have hof2 : S_18 (430 + b) = nI q := by rw [hS_18, va_up_ne _ _ (by omega)]; exact hof
            have hw2 : Iw S_18 q wl := by rw [hS_18]; exact Iw_up hw hq (by omega)
            have hc_q : sn S (430 + b) = q := sn_of hof (by omega)
            refine V_aload0 eX2_grant_107 rfl ?_
            refine M_ga mb rfl eX2_grant_108 fl_X2_8_2 ?_
            refine V_sipush (v := 970) (by decide) eX2_grant_111 ?_
            refine V_iload1 eX2_grant_114 ?_
            refine V_iadd eX2_grant_115 ?_
            refine V_aload0 eX2_grant_116 rfl ?_
            refine V_aload0 eX2_grant_117 rfl ?_
            refine M_ga mb rfl eX2_grant_118 fl_X2_8_2 ?_
            refine V_sipush (v := 430) (by decide) eX2_grant_121 ?_
            refine V_iload1 eX2_grant_124 ?_
            refine V_iadd eX2_grant_125 ?_
            refine M_sl (n := (430 + b)) mb (zadd rfl rfl) (by omega) hof2 eX2_grant_126 ?_
            refine M_call mb eX2_grant_127 lmX2_yardsOf q2151 q2153 rfl qs72 (c_yardsOf mb (p := q) (wl := wl) hq hw2) rfl rfl rfl rfl ?_
            refine M_ss (n := (970 + b)) mb (zadd rfl rfl) (by omega) eX2_grant_130 ?_
            obtain ⟨S_20, hS_20⟩ : ∃ T, T = va_up S_18 (970 + b) (zyards S_18 q) := ⟨_, rfl⟩
            rw [← hS_20]
            have hnp_21 : S_20 2 = (nI np) := by rw [hS_20]; exact rdn (by omega) hnp_19
            have hof_22 : S_20 (430 + b) = (nI q) := by rw [hS_20]; exact rdn (by omega) hof2
            refine V_aload0 eX2_grant_131 rfl ?_
            refine M_ga mb rfl eX2_grant_132 fl_X2_8_2 ?_
            refine V_sipush (v := 1030) (by decide) eX2_grant_135 ?_
            refine V_iload1 eX2_grant_138 ?_
            refine V_iadd eX2_grant_139 ?_
            refine V_bipush (v := -5) (by decide) eX2_grant_140 ?_
            refine M_ss (n := (1030 + b)) mb (zadd rfl rfl) (by omega) eX2_grant_142 ?_
            obtain ⟨S_23, hS_23⟩ : ∃ T, T = va_up S_20 (1030 + b) (-5 : Int32) := ⟨_, rfl⟩
            rw [← hS_23]
            have hnp_24 : S_23 2 = (nI np) := by rw [hS_23]; exact rdn (by omega) hnp_21
            have hof_25 : S_23 (430 + b) = (nI q) := by rw [hS_23]; exact rdn (by omega) hof_22
            refine V_aload0 eX2_grant_143 rfl ?_
            refine M_call mb eX2_grant_144 lmX2_granted q2234 q2236 rfl qs83 (c_granted mb hnp_24 hnp60) rfl rfl rfl rfl ?_
            have hE : ((zfold (fGr S_23) np 0), S_23) = o_grant S np (nI b) := by simp only [o_grant, ← hq46, ← hS_18, ← hS_20, ← hS_23, hpc, hc_q, if_neg c6, if_pos c21, if_neg c35, if_neg c90]
            exact V_ireturn eX2_grant_147 rfl (by rw [← hE]; exact ⟨rfl, _, _, _, (by rfl), (by rfl), rfl⟩)
          · refine V_bipush (v := -3) (by decide) eX2_grant_93 ?_
            have hE : ((-3 : Int32), S) = o_grant S np (nI b) := by simp only [o_grant, ← hq46, hpc, if_neg c6, if_pos c21, if_neg c35, if_pos c90]
            exact V_ireturn eX2_grant_95 rfl (by rw [← hE]; exact ⟨rfl, _, _, _, (by rfl), (by rfl), rfl⟩)
        · have hl46 : u < np := by have := nnle c53 (by omega) (by omega); omega
          refine V_iload2 eX2_grant_56 ?_
          refine V_ifeq eX2_grant_57 (fun c57 => ?_) (fun c57 => ?_)
          · refine V_iconst (v := 0) (by decide) eX2_grant_81 ?_
            refine V_istore2 rfl eX2_grant_82 rfl ?_
            refine V_iincN3 rfl eX2_grant_83 rfl ?_
            refine V_goto eX2_grant_86 ?_
            exact V.le (zle_c (zle_c (zle_c (zle_c zle_0)))) (ih46 hl46 (0 : Int32)  (by rw [zfold_s (n := u), ← hq46]; simp only [K_grant_46, hpc, if_pos c57])  )
          · refine V_aload0 eX2_grant_60 rfl ?_
            refine V_iload3 eX2_grant_61 ?_
            refine M_call mb eX2_grant_62 lmX2_isGranted q2230 q2232 rfl qs82 (c_isGranted mb (p := u) (by omega)) rfl rfl rfl rfl ?_
            refine V_ifeq eX2_grant_65 (fun c65 => ?_) (fun c65 => ?_)
            · refine V_iconst (v := 1) (by decide) eX2_grant_77 ?_
              refine V_goto eX2_grant_78 ?_
              refine V_istore2 rfl eX2_grant_82 rfl ?_
              refine V_iincN3 rfl eX2_grant_83 rfl ?_
              refine V_goto eX2_grant_86 ?_
              exact V.le (zle_c (zle_c (zle_c (zle_c zle_0)))) (ih46 hl46 (1 : Int32)  (by rw [zfold_s (n := u), ← hq46]; simp only [K_grant_46, hpc, if_neg c57, if_pos c65])  )
            · refine V_aload0 eX2_grant_68 rfl ?_
              refine V_iload3 eX2_grant_69 ?_
              refine V_iload1 eX2_grant_70 ?_
              refine M_call mb eX2_grant_71 lmX2_isBarred q2222 q2224 rfl qs81 (c_isBarred mb (a := u) (b := b) (by omega) (by omega)) rfl rfl rfl rfl ?_
              refine V_ifne eX2_grant_74 (fun c74 => ?_) (fun c74 => ?_)
              · refine V_iconst (v := 0) (by decide) eX2_grant_81 ?_
                refine V_istore2 rfl eX2_grant_82 rfl ?_
                refine V_iincN3 rfl eX2_grant_83 rfl ?_
                refine V_goto eX2_grant_86 ?_
                exact V.le (zle_c (zle_c (zle_c (zle_c zle_0)))) (ih46 hl46 (0 : Int32)  (by rw [zfold_s (n := u), ← hq46]; simp only [K_grant_46, hpc, if_neg c57, if_neg c65, if_neg c74])  )
              · refine V_iconst (v := 1) (by decide) eX2_grant_77 ?_
                refine V_goto eX2_grant_78 ?_
                refine V_istore2 rfl eX2_grant_82 rfl ?_
                refine V_iincN3 rfl eX2_grant_83 rfl ?_
                refine V_goto eX2_grant_86 ?_
                exact V.le (zle_c (zle_c (zle_c (zle_c zle_0)))) (ih46 hl46 (1 : Int32)  (by rw [zfold_s (n := u), ← hq46]; simp only [K_grant_46, hpc, if_neg c57, if_neg c65, if_pos c74])  )
  · refine V_iconst (v := -1) (by decide) eX2_grant_9 ?_
    have hE : ((-1 : Int32), S) = o_grant S np p := by simp only [o_grant, if_pos c6]
    exact V_ireturn eX2_grant_10 rfl (by rw [← hE]; exact ⟨rfl, _, _, _, (by rfl), (by rfl), rfl⟩)

