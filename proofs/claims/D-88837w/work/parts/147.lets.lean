/-- a ruling clause stands, and is of its word -/
def Rin (S : Nat → Int32) (no : Nat) (wd x : Int32) : Prop := x = -1 ∨ ∃ r, x = nI r ∧ r < 72 ∧ r / 8 < no ∧ r % 8 < sn S (10900 + r / 8) ∧ S (10910 + r) = wd
theorem fRk_in {S : Nat → Int32} {no : Nat} {wd : Int32} {a k : Nat} {x : Int32} (h : Rin S no wd x) (hn : a < no) (ha : a < 9) (hk : k < 8) (hl : k < sn S (10900 + a)) : Rin S no wd (fRk S wd a k x) := by
  unfold fRk
  split
  · next c =>
    have e1 : (8 * a + k) / 8 = a := by omega
    have e2 : (8 * a + k) % 8 = k := by omega
    refine Or.inr ⟨8 * a + k, rfl, by omega, by omega, by rw [e1, e2]; exact hl, ?_⟩
    rw [← Nat.add_assoc]; exact c.1
  · exact h
theorem fRkn_in {S : Nat → Int32} {no : Nat} {wd : Int32} {a : Nat} {x : Int32} (h : Rin S no wd x) (hn : a < no) (ha : a < 9) : ∀ n, n ≤ 8 → n ≤ sn S (10900 + a) → Rin S no wd (zfold (fRk S wd a) n x)
  | 0, _, _ => h
  | n + 1, h1, h2 => fRk_in (fRkn_in h hn ha n (by omega) (by omega)) hn ha (by omega) (by omega)
theorem fRan_in {S : Nat → Int32} {wd d : Int32} {no : Nat} (h : Ior S no) : ∀ n, n ≤ no → Rin S no wd (zfold (fRa S wd d) n (-1))
  | 0, _ => Or.inl rfl
  | n + 1, hn => by
    have ih := fRan_in (wd := wd) (d := d) h n (by omega)
    show Rin S no wd (fRa S wd d n _)
    unfold fRa
    split
    · exact fRkn_in ih (by omega) (by have := h.2.1; omega) _ (h.2.2 n (by omega)).2 (Nat.le_refl _)
    · exact ih
theorem zruling_in {S : Nat → Int32} {wd d : Int32} {no : Nat} (h : Ior S no) (hne : ¬ zruling S wd d = -1) : ∃ r, zruling S wd d = nI r ∧ r < 72 ∧ r / 8 < no ∧ r % 8 < sn S (10900 + r / 8) ∧ S (10910 + r) = wd := by
  have := fRan_in (wd := wd) (d := d) h no (Nat.le_refl _)
  unfold zruling at hne ⊢
  rw [sn_of h.1 (by have := h.2.1; omega)] at hne ⊢
  rcases this with e | e
  · exact absurd e hne
  · exact e
/-- the lets of the standing orders lie in their texts -/
def Icl (S : Nat → Int32) (no : Nat) : Prop := ∀ r, r / 8 < no → r % 8 < sn S (10900 + r / 8) → S (10910 + r) = 6 → ∃ ln sp, S (9630 + r / 8) = nI ln ∧ ln ≤ 140 ∧ S (11070 + r) = nI sp ∧ sp ≤ ln
theorem z_som_bo {S : Nat → Int32} {A : Nat → Nat → Int32} {a ln sp : Nat} (hl : ln ≤ 140) (hs : sp ≤ ln) : (z_som S A a ln 5 sp).1 = 0 ∨ (z_som S A a ln 5 sp).1 = 1 := by
  obtain ⟨s, h1, h2, h3, h4, h5⟩ := z_som_PW (S := S) (A := A) (a := a) hl 5 sp hs
  exact h5
/-- what a bill's papers must be -/
def Ibl (S : Nat → Int32) (b : Nat) : Prop := ∃ q wl ta tb, S (430 + b) = nI q ∧ q < 60 ∧ Iw S q wl ∧ S (550 + b) = nI ta ∧ ta < 6 ∧ S (610 + b) = nI tb ∧ tb < 6

def o_text (S : Nat → Int32) (A : Nat → Nat → Int32) (F : Nat → Int32) (no : Nat) (tp : Nat) (day : Int32) : Int32 × (Nat → Int32) × Int32 × Int32 × Int32 × Int32 :=
  if (zin day 0 999) = 0 then
    ((-2 : Int32), S, (F 4), (F 5), (F 6), (F 7))
  else
    if (nI no) = (8 : Int32) then
      ((-4 : Int32), S, (F 4), (F 5), (F 6), (F 7))
    else
      let v_1 := (o_readsOrder S A (va_up (va_up (va_up (va_up F 4 (F 4)) 5 (F 5)) 6 (F 6)) 7 (F 7)) no tp day).1
      let v_2 := (o_readsOrder S A (va_up (va_up (va_up (va_up F 4 (F 4)) 5 (F 5)) 6 (F 6)) 7 (F 7)) no tp day).2.2.1
      let v_3 := (o_readsOrder S A (va_up (va_up (va_up (va_up F 4 (F 4)) 5 (F 5)) 6 (F 6)) 7 (F 7)) no tp day).2.2.2.1
      let v_4 := (o_readsOrder S A (va_up (va_up (va_up (va_up F 4 (F 4)) 5 (F 5)) 6 (F 6)) 7 (F 7)) no tp day).2.2.2.2.1
      let v_5 := (o_readsOrder S A (va_up (va_up (va_up (va_up F 4 (F 4)) 5 (F 5)) 6 (F 6)) 7 (F 7)) no tp day).2.2.2.2.2
      let S_6 := (o_readsOrder S A (va_up (va_up (va_up (va_up F 4 (F 4)) 5 (F 5)) 6 (F 6)) 7 (F 7)) no tp day).2.1
      if v_1 = 0 then
        (((-10 : Int32) - v_3), S_6, v_2, v_3, v_4, v_5)
      else
        let S_7 := va_up S_6 3 ((S_6 3) + (1 : Int32))
        (((S_7 3) - (1 : Int32)), S_7, v_2, v_3, v_4, v_5)
theorem c_text {w : Wd} {h : Hp} {m : Nat} {ad : Nat → Nat} {A : Nat → Nat → Int32} {B : Nat → Nat → Int64} {F S : Nat → Int32} (mb : MB h m ad) (day : Int32) {no : Nat} (hno : S 3 = nI no) (hno8 : no ≤ 8) {tp : Nat} (htp : S 4 = nI tp) (htp4 : tp ≤ 140) (sb : SB w h) : Con w mX2_text cX2_text 25 0 0 [.ref m, .int day] (ms h A B F S) (Rv (.int (o_text S A F no tp day).1) (ms h A B (va_up (va_up (va_up (va_up F 4 (o_text S A F no tp day).2.2.1) 5 (o_text S A F no tp day).2.2.2.1) 6 (o_text S A F no tp day).2.2.2.2.1) 7 (o_text S A F no tp day).2.2.2.2.2) (o_text S A F no tp day).2.1)) := by
  refine Con.of (by decide +kernel) rfl rfl ?_
  show V w mX2_text cX2_text 25 0 0 _ 0 [some (.ref m), some (.int day)] [] _
  rw [ms_extF (show F = (va_up (va_up (va_up (va_up F 4 (F 4)) 5 (F 5)) 6 (F 6)) 7 (F 7)) from by
    funext q
    by_cases e4 : q = 4
    · subst e4; rfl
    by_cases e5 : q = 5
    · subst e5; rfl
    by_cases e6 : q = 6
    · subst e6; rfl
    by_cases e7 : q = 7
    · subst e7; rfl
    simp only [va_up, if_neg e4, if_neg e5, if_neg e6, if_neg e7])]
  refine V_iload1 eX2_text_0 ?_
  refine C0_static eX2_text_1 lmX2_isDay q1994 q1995 (c_isDay _ _) rfl rfl rfl rfl ?_
  refine V_ifne eX2_text_4 (fun c4 => ?_) (fun c4 => ?_)
  · refine V_aload0 eX2_text_10 rfl ?_
    refine M_ga mb rfl eX2_text_11 fl_X2_8_2 ?_
    refine V_iconst (v := 3) (by decide) eX2_text_14 ?_
    refine M_sl (n := 3) mb rfl (by omega) hno eX2_text_15 ?_
    refine V_bipush (v := 8) (by decide) eX2_text_16 ?_
    refine V_if_icmpne eX2_text_18 (fun c18 => ?_) (fun c18 => ?_)
    · refine V_aload0 eX2_text_24 rfl ?_
      refine V_aload0 eX2_text_25 rfl ?_
      refine M_ga mb rfl eX2_text_26 fl_X2_8_2 ?_
      refine V_iconst (v := 3) (by decide) eX2_text_29 ?_
      refine M_sl (n := 3) mb rfl (by omega) hno eX2_text_30 ?_
      refine V_iload1 eX2_text_31 ?_
      refine M_call mb eX2_text_32 lmX2_readsOrder q1997 q1999 rfl qs54 (c_readsOrder mb (A := A) (F := (va_up (va_up (va_up (va_up F 4 (F 4)) 5 (F 5)) 6 (F 6)) 7 (F 7))) no day (tp := tp) (by omega) htp htp4 sb) rfl rfl rfl rfl ?_
      obtain ⟨v_1, hv_1⟩ : ∃ T, T = (o_readsOrder S A (va_up (va_up (va_up (va_up F 4 (F 4)) 5 (F 5)) 6 (F 6)) 7 (F 7)) no tp day).1 := ⟨_, rfl⟩
      rw [← hv_1]
      obtain ⟨v_2, hv_2⟩ : ∃ T, T = (o_readsOrder S A (va_up (va_up (va_up (va_up F 4 (F 4)) 5 (F 5)) 6 (F 6)) 7 (F 7)) no tp day).2.2.1 := ⟨_, rfl⟩
      rw [← hv_2]
      obtain ⟨v_3, hv_3⟩ : ∃ T, T = (o_readsOrder S A (va_up (va_up (va_up (va_up F 4 (F 4)) 5 (F 5)) 6 (F 6)) 7 (F 7)) no tp day).2.2.2.1 := ⟨_, rfl⟩
      rw [← hv_3]
      obtain ⟨v_4, hv_4⟩ : ∃ T, T = (o_readsOrder S A (va_up (va_up (va_up (va_up F 4 (F 4)) 5 (F 5)) 6 (F 6)) 7 (F 7)) no tp day).2.2.2.2.1 := ⟨_, rfl⟩
      rw [← hv_4]
      obtain ⟨v_5, hv_5⟩ : ∃ T, T = (o_readsOrder S A (va_up (va_up (va_up (va_up F 4 (F 4)) 5 (F 5)) 6 (F 6)) 7 (F 7)) no tp day).2.2.2.2.2 := ⟨_, rfl⟩
      rw [← hv_5]
      rw [ms_extF (show (va_up (va_up (va_up (va_up (va_up (va_up (va_up (va_up F 4 (F 4)) 5 (F 5)) 6 (F 6)) 7 (F 7)) 4 v_2) 5 v_3) 6 v_4) 7 v_5) = (va_up (va_up (va_up (va_up F 4 v_2) 5 v_3) 6 v_4) 7 v_5) from by
          funext q
          by_cases e4 : q = 4
          · subst e4; rfl
          by_cases e5 : q = 5
          · subst e5; rfl
          by_cases e6 : q = 6
          · subst e6; rfl
          by_cases e7 : q = 7
          · subst e7; rfl
          simp only [va_up, if_neg e4, if_neg e5, if_neg e6, if_neg e7])]
      obtain ⟨S_6, hS_6⟩ : ∃ T, T = (o_readsOrder S A (va_up (va_up (va_up (va_up F 4 (F 4)) 5 (F 5)) 6 (F 6)) 7 (F 7)) no tp day).2.1 := ⟨_, rfl⟩
      rw [← hS_6]
      refine V_ifne eX2_text_35 (fun c35 => ?_) (fun c35 => ?_)
      · refine V_aload0 eX2_text_46 rfl ?_
        refine M_ga mb rfl eX2_text_47 fl_X2_8_2 ?_
        refine V_iconst (v := 3) (by decide) eX2_text_50 ?_
        refine V_dup2 rfl rfl eX2_text_51 ?_
        refine M_sl (n := 3) mb rfl (by omega) rfl eX2_text_52 ?_
        refine V_iconst (v := 1) (by decide) eX2_text_53 ?_
        refine V_iadd eX2_text_54 ?_
        refine M_ss (n := 3) mb rfl (by omega) eX2_text_55 ?_
        obtain ⟨S_7, hS_7⟩ : ∃ T, T = va_up S_6 3 ((S_6 3) + (1 : Int32)) := ⟨_, rfl⟩
        rw [← hS_7]
        refine V_aload0 eX2_text_56 rfl ?_
        refine M_ga mb rfl eX2_text_57 fl_X2_8_2 ?_
        refine V_iconst (v := 3) (by decide) eX2_text_60 ?_
        refine M_sl (n := 3) mb rfl (by omega) rfl eX2_text_61 ?_
        refine V_iconst (v := 1) (by decide) eX2_text_62 ?_
        refine V_isub eX2_text_63 ?_
        have hE : (((S_7 3) - (1 : Int32)), S_7, v_2, v_3, v_4, v_5) = o_text S A F no tp day := by simp only [o_text, ← hv_1, ← hv_2, ← hv_3, ← hv_4, ← hv_5, ← hS_6, ← hS_7, if_neg c4, if_neg c18, if_neg c35]
        exact V_ireturn eX2_text_64 rfl (by rw [← hE]; exact ⟨rfl, rfl⟩)
      · refine V_bipush (v := -10) (by decide) eX2_text_38 ?_
        refine V_aload0 eX2_text_40 rfl ?_
        refine M_gi mb (Or.inl rfl) (show _ = v_3 from rfl) eX2_text_41 fl_X2_75_2 ?_
        refine V_isub eX2_text_44 ?_
        have hE : (((-10 : Int32) - v_3), S_6, v_2, v_3, v_4, v_5) = o_text S A F no tp day := by simp only [o_text, ← hv_1, ← hv_2, ← hv_3, ← hv_4, ← hv_5, ← hS_6, if_neg c4, if_neg c18, if_pos c35]
        exact V_ireturn eX2_text_45 rfl (by rw [← hE]; exact ⟨rfl, rfl⟩)
    · refine V_bipush (v := -4) (by decide) eX2_text_21 ?_
      have hE : ((-4 : Int32), S, (F 4), (F 5), (F 6), (F 7)) = o_text S A F no tp day := by simp only [o_text, if_neg c4, if_pos c18]
      exact V_ireturn eX2_text_23 rfl (by rw [← hE]; exact ⟨rfl, rfl⟩)
  · refine V_bipush (v := -2) (by decide) eX2_text_7 ?_
    have hE : ((-2 : Int32), S, (F 4), (F 5), (F 6), (F 7)) = o_text S A F no tp day := by simp only [o_text, if_pos c4]
    exact V_ireturn eX2_text_9 rfl (by rw [← hE]; exact ⟨rfl, rfl⟩)

def o_canBeLet (S : Nat → Int32) (A : Nat → Nat → Int32) (F : Nat → Int32) (b : Nat) (day : Int32) : Int32 × (Nat → Int32) × Int32 × Int32 × Int32 × Int32 :=
  if (zruling S (6 : Int32) day) = (-1 : Int32) then
    ((1 : Int32), (A 8), (F 4), (F 5), (F 6), (F 7))
  else
    let r := ((zruling S (6 : Int32) day)).toNatClampNeg
    let q := sn S (430 + b)
    let ta := sn S (550 + b)
    let tb := sn S (610 + b)
    let sp := sn S (11070 + r)
    let ln := sn S (9630 + r / 8)
    let R_1 := va_up (A 8) 0 ((zyards S q) / (10 : Int32))
    let R_2 := va_up R_1 1 ((S (186 + ta)) + (S (186 + tb)))
    let R_3 := va_up R_2 2 (zinway S q (2 : Int32))
    let R_4 := va_up R_3 3 (zinway S q (1 : Int32))
    let R_5 := va_up R_4 4 (zclaims S q)
    let R_6 := va_up R_5 5 (S (670 + b))
    let v_7 := (z_som S (va_up A 8 R_6) (r / 8) ln 5 sp).1
    let v_8 := (z_som S (va_up A 8 R_6) (r / 8) ln 5 sp).2.1
    let v_9 := (z_som S (va_up A 8 R_6) (r / 8) ln 5 sp).2.2
    (v_7, R_6, (nI (r / 8)), v_8, v_9, (nI 0))
theorem c_canBeLet {w : Wd} {h : Hp} {m : Nat} {ad : Nat → Nat} {A : Nat → Nat → Int32} {B : Nat → Nat → Int64} {F S : Nat → Int32} (mb : MB h m ad) (b : Nat) (day : Int32) {np : Nat} (hnp : S 2 = nI np) (hnp60 : np ≤ 60) {no : Nat} (ho : Ior S no) (hcl : Icl S no) (hb : b < 60) (hbl : Ibl S b) : Con w mX2_canBeLet cX2_canBeLet 23 0 0 [.ref m, .int (nI b), .int day] (ms h A B F S) (Rv (.int (o_canBeLet S A F b day).1) (ms h (va_up A 8 (o_canBeLet S A F b day).2.1) B (va_up (va_up (va_up (va_up F 4 (o_canBeLet S A F b day).2.2.1) 5 (o_canBeLet S A F b day).2.2.2.1) 6 (o_canBeLet S A F b day).2.2.2.2.1) 7 (o_canBeLet S A F b day).2.2.2.2.2) S)) := by
  refine Con.of (by decide +kernel) rfl rfl ?_
  show V w mX2_canBeLet cX2_canBeLet 23 0 0 _ 0 [some (.ref m), some (.int (nI b)), some (.int day), none] [] _
  rw [ms_extA (show A = (va_up A 8 (A 8)) from by
    funext q
    by_cases e8 : q = 8
    · subst e8; rfl
    simp only [va_up, if_neg e8])]
  rw [ms_extF (show F = (va_up (va_up (va_up (va_up F 4 (F 4)) 5 (F 5)) 6 (F 6)) 7 (F 7)) from by
    funext q
    by_cases e4 : q = 4
    · subst e4; rfl
    by_cases e5 : q = 5
    · subst e5; rfl
    by_cases e6 : q = 6
    · subst e6; rfl
    by_cases e7 : q = 7
    · subst e7; rfl
    simp only [va_up, if_neg e4, if_neg e5, if_neg e6, if_neg e7])]
  refine V_aload0 eX2_canBeLet_0 rfl ?_
  refine V_bipush (v := 6) (by decide) eX2_canBeLet_1 ?_
  refine V_iload2 eX2_canBeLet_3 ?_
  refine M_call mb eX2_canBeLet_4 lmX2_ruling q2095 q2097 rfl qs64 (c_ruling mb _ _ ho) rfl rfl rfl rfl ?_
  refine V_istore3 rfl eX2_canBeLet_7 rfl ?_
  refine V_iload3 eX2_canBeLet_8 ?_
  refine V_iconst (v := -1) (by decide) eX2_canBeLet_9 ?_
  refine V_if_icmpne eX2_canBeLet_10 (fun c10 => ?_) (fun c10 => ?_)
  · obtain ⟨r, hr, hr72, hr1, hr2, hr3⟩ := zruling_in ho c10
    obtain ⟨ln, sp, hln, hln4, hspv, hspl⟩ := hcl r hr1 hr2 hr3
    have hno9 := ho.2.1
    have hdv : (nI r) / (8 : Int32) = nI (r / 8) := pk_div (d := 8) (by omega) (by decide) (by decide)
    obtain ⟨q, wl, ta, tb, hof, hq, hw, hta, hta6, htb, htb6⟩ := hbl
    have hrc : ((zruling S (6 : Int32) day)).toNatClampNeg = r := by rw [hr]; exact nI_clamp (by omega)
    rw [hr]
    have hc_q : sn S (430 + b) = q := sn_of hof (by omega)
    have hc_ta : sn S (550 + b) = ta := sn_of hta (by omega)
    have hc_tb : sn S (610 + b) = tb := sn_of htb (by omega)
    have hc_sp : sn S (11070 + r) = sp := sn_of hspv (by omega)
    have hc_ln : sn S (9630 + r / 8) = ln := sn_of hln (by omega)
    refine V_aload0 eX2_canBeLet_15 rfl ?_
    refine M_ga mb rfl eX2_canBeLet_16 fl_X2_17_2 ?_
    refine V_iconst (v := 0) (by decide) eX2_canBeLet_19 ?_
    refine V_aload0 eX2_canBeLet_20 rfl ?_
    refine V_aload0 eX2_canBeLet_21 rfl ?_
    refine M_ga mb rfl eX2_canBeLet_22 fl_X2_8_2 ?_
    refine V_sipush (v := 430) (by decide) eX2_canBeLet_25 ?_
    refine V_iload1 eX2_canBeLet_28 ?_
    refine V_iadd eX2_canBeLet_29 ?_
    refine M_sl (n := (430 + b)) mb (zadd rfl rfl) (by omega) hof eX2_canBeLet_30 ?_
    refine M_call mb eX2_canBeLet_31 lmX2_yardsOf q2151 q2153 rfl qs72 (c_yardsOf mb (p := q) (wl := wl) hq hw) rfl rfl rfl rfl ?_
    refine V_bipush (v := 10) (by decide) eX2_canBeLet_34 ?_
    refine V_idiv (by decide) eX2_canBeLet_36 ?_
    refine M_as (j := 8) (n := 0) mb rfl (by decide) rfl (by show _ < _; first | decide | (simp only [mlen]; omega)) eX2_canBeLet_37 ?_
    obtain ⟨R_1, hR_1⟩ : ∃ T, T = va_up (A 8) 0 ((zyards S q) / (10 : Int32)) := ⟨_, rfl⟩
    rw [ms_extA (show va_up (va_up A 8 (A 8)) 8 (va_up ((va_up A 8 (A 8)) 8) 0 ((zyards S q) / (10 : Int32))) = (va_up A 8 R_1) from by
        rw [hR_1]; funext q
        by_cases e8 : q = 8
        · subst e8; rfl
        simp only [va_up, if_neg e8])]
    refine V_aload0 eX2_canBeLet_38 rfl ?_
    refine M_ga mb rfl eX2_canBeLet_39 fl_X2_17_2 ?_
    refine V_iconst (v := 1) (by decide) eX2_canBeLet_42 ?_
    refine V_aload0 eX2_canBeLet_43 rfl ?_
    refine M_ga mb rfl eX2_canBeLet_44 fl_X2_8_2 ?_
    refine V_sipush (v := 186) (by decide) eX2_canBeLet_47 ?_
    refine V_aload0 eX2_canBeLet_50 rfl ?_
    refine M_ga mb rfl eX2_canBeLet_51 fl_X2_8_2 ?_
    refine V_sipush (v := 550) (by decide) eX2_canBeLet_54 ?_
    refine V_iload1 eX2_canBeLet_57 ?_
    refine V_iadd eX2_canBeLet_58 ?_
    refine M_sl (n := (550 + b)) mb (zadd rfl rfl) (by omega) hta eX2_canBeLet_59 ?_
    refine V_iadd eX2_canBeLet_60 ?_
    refine M_sl (n := (186 + ta)) mb (zadd rfl rfl) (by omega) rfl eX2_canBeLet_61 ?_
    refine V_aload0 eX2_canBeLet_62 rfl ?_
    refine M_ga mb rfl eX2_canBeLet_63 fl_X2_8_2 ?_
    refine V_sipush (v := 186) (by decide) eX2_canBeLet_66 ?_
    refine V_aload0 eX2_canBeLet_69 rfl ?_
    refine M_ga mb rfl eX2_canBeLet_70 fl_X2_8_2 ?_
    refine V_sipush (v := 610) (by decide) eX2_canBeLet_73 ?_
    refine V_iload1 eX2_canBeLet_76 ?_
    refine V_iadd eX2_canBeLet_77 ?_
    refine M_sl (n := (610 + b)) mb (zadd rfl rfl) (by omega) htb eX2_canBeLet_78 ?_
    refine V_iadd eX2_canBeLet_79 ?_
    refine M_sl (n := (186 + tb)) mb (zadd rfl rfl) (by omega) rfl eX2_canBeLet_80 ?_
    refine V_iadd eX2_canBeLet_81 ?_
    refine M_as (j := 8) (n := 1) mb rfl (by decide) rfl (by show _ < _; first | decide | (simp only [mlen]; omega)) eX2_canBeLet_82 ?_
    obtain ⟨R_2, hR_2⟩ : ∃ T, T = va_up R_1 1 ((S (186 + ta)) + (S (186 + tb))) := ⟨_, rfl⟩
    rw [ms_extA (show va_up (va_up A 8 R_1) 8 (va_up ((va_up A 8 R_1) 8) 1 ((S (186 + ta)) + (S (186 + tb)))) = (va_up A 8 R_2) from by
        rw [hR_2]; funext q
        by_cases e8 : q = 8
        · subst e8; rfl
        simp only [va_up, if_neg e8])]
    refine V_aload0 eX2_canBeLet_83 rfl ?_
    refine M_ga mb rfl eX2_canBeLet_84 fl_X2_17_2 ?_
    refine V_iconst (v := 2) (by decide) eX2_canBeLet_87 ?_
    refine V_aload0 eX2_canBeLet_88 rfl ?_
    refine V_iload1 eX2_canBeLet_89 ?_
    refine V_iconst (v := 2) (by decide) eX2_canBeLet_90 ?_
    refine M_call mb eX2_canBeLet_91 lmX2_inWay q2210 q2212 rfl qs79 (c_inWay mb (b := b) (q := q) (wl := wl) hb hof hq hw) rfl rfl rfl rfl ?_
    refine M_as (j := 8) (n := 2) mb rfl (by decide) rfl (by show _ < _; first | decide | (simp only [mlen]; omega)) eX2_canBeLet_94 ?_
    obtain ⟨R_3, hR_3⟩ : ∃ T, T = va_up R_2 2 (zinway S q (2 : Int32)) := ⟨_, rfl⟩
    rw [ms_extA (show va_up (va_up A 8 R_2) 8 (va_up ((va_up A 8 R_2) 8) 2 (zinway S q (2 : Int32))) = (va_up A 8 R_3) from by
        rw [hR_3]; funext q
        by_cases e8 : q = 8
        · subst e8; rfl
        simp only [va_up, if_neg e8])]
    refine V_aload0 eX2_canBeLet_95 rfl ?_
    refine M_ga mb rfl eX2_canBeLet_96 fl_X2_17_2 ?_
    refine V_iconst (v := 3) (by decide) eX2_canBeLet_99 ?_
    refine V_aload0 eX2_canBeLet_100 rfl ?_
    refine V_iload1 eX2_canBeLet_101 ?_
    refine V_iconst (v := 1) (by decide) eX2_canBeLet_102 ?_
    refine M_call mb eX2_canBeLet_103 lmX2_inWay q2210 q2212 rfl qs79 (c_inWay mb (b := b) (q := q) (wl := wl) hb hof hq hw) rfl rfl rfl rfl ?_
    refine M_as (j := 8) (n := 3) mb rfl (by decide) rfl (by show _ < _; first | decide | (simp only [mlen]; omega)) eX2_canBeLet_106 ?_
    obtain ⟨R_4, hR_4⟩ : ∃ T, T = va_up R_3 3 (zinway S q (1 : Int32)) := ⟨_, rfl⟩
    rw [ms_extA (show va_up (va_up A 8 R_3) 8 (va_up ((va_up A 8 R_3) 8) 3 (zinway S q (1 : Int32))) = (va_up A 8 R_4) from by
        rw [hR_4]; funext q
        by_cases e8 : q = 8
        · subst e8; rfl
        simp only [va_up, if_neg e8])]
    refine V_aload0 eX2_canBeLet_107 rfl ?_
    refine M_ga mb rfl eX2_canBeLet_108 fl_X2_17_2 ?_
    refine V_iconst (v := 4) (by decide) eX2_canBeLet_111 ?_
    refine V_aload0 eX2_canBeLet_112 rfl ?_
    refine V_iload1 eX2_canBeLet_113 ?_
    refine M_call mb eX2_canBeLet_114 lmX2_claims q2214 q2216 rfl qs80 (c_claims mb (b := b) (q := q) (wl := wl) hb hof hq hw.1 hw.2.1 hnp hnp60) rfl rfl rfl rfl ?_
    refine M_as (j := 8) (n := 4) mb rfl (by decide) rfl (by show _ < _; first | decide | (simp only [mlen]; omega)) eX2_canBeLet_117 ?_
    obtain ⟨R_5, hR_5⟩ : ∃ T, T = va_up R_4 4 (zclaims S q) := ⟨_, rfl⟩
    rw [ms_extA (show va_up (va_up A 8 R_4) 8 (va_up ((va_up A 8 R_4) 8) 4 (zclaims S q)) = (va_up A 8 R_5) from by
        rw [hR_5]; funext q
        by_cases e8 : q = 8
        · subst e8; rfl
        simp only [va_up, if_neg e8])]
    refine V_aload0 eX2_canBeLet_118 rfl ?_
    refine M_ga mb rfl eX2_canBeLet_119 fl_X2_17_2 ?_
    refine V_iconst (v := 5) (by decide) eX2_canBeLet_122 ?_
    refine V_aload0 eX2_canBeLet_123 rfl ?_
    refine M_ga mb rfl eX2_canBeLet_124 fl_X2_8_2 ?_
    refine V_sipush (v := 670) (by decide) eX2_canBeLet_127 ?_
    refine V_iload1 eX2_canBeLet_130 ?_
    refine V_iadd eX2_canBeLet_131 ?_
    refine M_sl (n := (670 + b)) mb (zadd rfl rfl) (by omega) rfl eX2_canBeLet_132 ?_
    refine M_as (j := 8) (n := 5) mb rfl (by decide) rfl (by show _ < _; first | decide | (simp only [mlen]; omega)) eX2_canBeLet_133 ?_
    obtain ⟨R_6, hR_6⟩ : ∃ T, T = va_up R_5 5 (S (670 + b)) := ⟨_, rfl⟩
    rw [ms_extA (show va_up (va_up A 8 R_5) 8 (va_up ((va_up A 8 R_5) 8) 5 (S (670 + b))) = (va_up A 8 R_6) from by
        rw [hR_6]; funext q
        by_cases e8 : q = 8
        · subst e8; rfl
        simp only [va_up, if_neg e8])]
    refine V_aload0 eX2_canBeLet_134 rfl ?_
    refine V_iload3 eX2_canBeLet_135 ?_
    refine V_bipush (v := 8) (by decide) eX2_canBeLet_136 ?_
    refine V_idiv (by decide) eX2_canBeLet_138 ?_
    refine M_pi mb (Or.inl rfl) rfl eX2_canBeLet_139 fl_X2_78_2 ?_
    rw [show ((nI r) / (8 : Int32)) = nI (r / 8) from hdv]
    rw [ms_extF (show va_up (va_up (va_up (va_up (va_up F 4 (F 4)) 5 (F 5)) 6 (F 6)) 7 (F 7)) 4 (nI (r / 8)) = (va_up (va_up (va_up (va_up F 4 (nI (r / 8))) 5 (F 5)) 6 (F 6)) 7 (F 7)) from by
        funext q
        by_cases e4 : q = 4
        · subst e4; rfl
        by_cases e5 : q = 5
        · subst e5; rfl
        by_cases e6 : q = 6
        · subst e6; rfl
        by_cases e7 : q = 7
        · subst e7; rfl
        simp only [va_up, if_neg e4, if_neg e5, if_neg e6, if_neg e7])]
    refine V_aload0 eX2_canBeLet_142 rfl ?_
    refine V_aload0 eX2_canBeLet_143 rfl ?_
    refine M_ga mb rfl eX2_canBeLet_144 fl_X2_8_2 ?_
    refine V_sipush (v := 11070) (by decide) eX2_canBeLet_147 ?_
    refine V_iload3 eX2_canBeLet_150 ?_
    refine V_iadd eX2_canBeLet_151 ?_
    refine M_sl (n := (11070 + r)) mb (zadd rfl rfl) (by omega) hspv eX2_canBeLet_152 ?_
    refine M_pi mb (Or.inl rfl) rfl eX2_canBeLet_153 fl_X2_75_2 ?_
    rw [ms_extF (show va_up (va_up (va_up (va_up (va_up F 4 (nI (r / 8))) 5 (F 5)) 6 (F 6)) 7 (F 7)) 5 (nI sp) = (va_up (va_up (va_up (va_up F 4 (nI (r / 8))) 5 (nI sp)) 6 (F 6)) 7 (F 7)) from by
        funext q
        by_cases e4 : q = 4
        · subst e4; rfl
        by_cases e5 : q = 5
        · subst e5; rfl
        by_cases e6 : q = 6
        · subst e6; rfl
        by_cases e7 : q = 7
        · subst e7; rfl
        simp only [va_up, if_neg e4, if_neg e5, if_neg e6, if_neg e7])]
    refine V_aload0 eX2_canBeLet_156 rfl ?_
    refine V_iconst (v := 0) (by decide) eX2_canBeLet_157 ?_
    refine M_pi mb (Or.inl rfl) rfl eX2_canBeLet_158 fl_X2_116_2 ?_
    rw [ms_extF (show va_up (va_up (va_up (va_up (va_up F 4 (nI (r / 8))) 5 (nI sp)) 6 (F 6)) 7 (F 7)) 7 (0 : Int32) = (va_up (va_up (va_up (va_up F 4 (nI (r / 8))) 5 (nI sp)) 6 (F 6)) 7 (0 : Int32)) from by
        funext q
        by_cases e4 : q = 4
        · subst e4; rfl
        by_cases e5 : q = 5
        · subst e5; rfl
        by_cases e6 : q = 6
        · subst e6; rfl
        by_cases e7 : q = 7
        · subst e7; rfl
        simp only [va_up, if_neg e4, if_neg e5, if_neg e6, if_neg e7])]
    refine V_aload0 eX2_canBeLet_161 rfl ?_
    refine V_iconst (v := 0) (by decide) eX2_canBeLet_162 ?_
    refine M_pz mb (Or.inl rfl) rfl (by decide) eX2_canBeLet_163 fl_X2_81_2 ?_
    rw [ms_extF (show va_up (va_up (va_up (va_up (va_up F 4 (nI (r / 8))) 5 (nI sp)) 6 (F 6)) 7 (0 : Int32)) 6 (0 : Int32) = (va_up (va_up (va_up (va_up F 4 (nI (r / 8))) 5 (nI sp)) 6 (0 : Int32)) 7 (0 : Int32)) from by
        funext q
        by_cases e4 : q = 4
        · subst e4; rfl
        by_cases e5 : q = 5
        · subst e5; rfl
        by_cases e6 : q = 6
        · subst e6; rfl
        by_cases e7 : q = 7
        · subst e7; rfl
        simp only [va_up, if_neg e4, if_neg e5, if_neg e6, if_neg e7])]
    refine V_aload0 eX2_canBeLet_166 rfl ?_
    refine M_call mb eX2_canBeLet_167 lmX2_some q2067 q2069 rfl qs58 (PC_som mb (A := (va_up A 8 R_6)) (by omega) hln hln4 (sp := sp) hspl (F := (va_up (va_up (va_up (va_up F 4 (nI (r / 8))) 5 (nI sp)) 6 (0 : Int32)) 7 (0 : Int32))) (show _ = nI (r / 8) from rfl) (show _ = nI sp from rfl) (show _ = 0 from rfl) (show _ = nI 0 from rfl)) rfl rfl rfl rfl ?_
    have hbo := z_som_bo (S := S) (A := (va_up A 8 R_6)) (a := r / 8) hln4 hspl
    obtain ⟨v_7, hv_7⟩ : ∃ T, T = (z_som S (va_up A 8 R_6) (r / 8) ln 5 sp).1 := ⟨_, rfl⟩
    rw [← hv_7]
    rw [← hv_7] at hbo
    obtain ⟨v_8, hv_8⟩ : ∃ T, T = (z_som S (va_up A 8 R_6) (r / 8) ln 5 sp).2.1 := ⟨_, rfl⟩
    rw [← hv_8]
    obtain ⟨v_9, hv_9⟩ : ∃ T, T = (z_som S (va_up A 8 R_6) (r / 8) ln 5 sp).2.2 := ⟨_, rfl⟩
    rw [← hv_9]
    rw [ms_extF (show (va_up (va_up (va_up (va_up (va_up (va_up (va_up F 4 (nI (r / 8))) 5 (nI sp)) 6 (0 : Int32)) 7 (0 : Int32)) 5 v_8) 6 v_9) 7 (nI 0)) = (va_up (va_up (va_up (va_up F 4 (nI (r / 8))) 5 v_8) 6 v_9) 7 (nI 0)) from by
        funext q
        by_cases e4 : q = 4
        · subst e4; rfl
        by_cases e5 : q = 5
        · subst e5; rfl
        by_cases e6 : q = 6
        · subst e6; rfl
        by_cases e7 : q = 7
        · subst e7; rfl
        simp only [va_up, if_neg e4, if_neg e5, if_neg e6, if_neg e7])]
    have hE : (v_7, R_6, (nI (r / 8)), v_8, v_9, (nI 0)) = o_canBeLet S A F b day := by simp only [o_canBeLet, ← hR_1, ← hR_2, ← hR_3, ← hR_4, ← hR_5, ← hR_6, ← hv_7, ← hv_8, ← hv_9, hrc, hc_q, hc_ta, hc_tb, hc_sp, hc_ln, if_neg c10]
    exact V_zreturn eX2_canBeLet_170 rfl hbo (by rw [← hE]; exact ⟨rfl, rfl⟩)
  · refine V_iconst (v := 1) (by decide) eX2_canBeLet_13 ?_
    have hE : ((1 : Int32), (A 8), (F 4), (F 5), (F 6), (F 7)) = o_canBeLet S A F b day := by simp only [o_canBeLet, if_pos c10]
    exact V_zreturn eX2_canBeLet_14 rfl (by decide) (by rw [← hE]; exact ⟨rfl, rfl⟩)

