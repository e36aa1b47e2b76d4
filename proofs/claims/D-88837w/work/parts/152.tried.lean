theorem Iw_fr {S T : Nat → Int32} {p wl : Nat} (h : Iw S p wl) (hp : p < 60) (hf : ∀ j, j ≠ 3 → j ≠ 4 → (j < 9620 ∨ 11150 ≤ j) → T j = S j) : Iw T p wl := by
  have hw := h.2.1
  refine ⟨by rw [hf _ (by omega) (by omega) (by omega)]; exact h.1, h.2.1, fun k hk => ?_⟩
  have := h.2.2 k hk
  unfold wc sn at this ⊢
  rw [hf _ (by omega) (by omega) (by omega)]
  exact this
theorem Hbl_fr {S T : Nat → Int32} {np : Nat} (h : Hbl S np) (hn : np ≤ 60) (hf : ∀ j, j ≠ 3 → j ≠ 4 → (j < 9620 ∨ 11150 ≤ j) → T j = S j) : Hbl T np := by
  intro b hb hk
  rw [hf _ (by omega) (by omega) (by omega)] at hk
  obtain ⟨q, wl, ta, tb, h1, h2, h3, h4, h5, h6, h7⟩ := h b hb hk
  exact ⟨q, wl, ta, tb, by rw [hf _ (by omega) (by omega) (by omega)]; exact h1, h2, Iw_fr h3 h2 hf, by rw [hf _ (by omega) (by omega) (by omega)]; exact h4, h5, by rw [hf _ (by omega) (by omega) (by omega)]; exact h6, h7⟩
/-- an order read well is the next -/
theorem ro_next {S S1 : Nat → Int32} {no tp : Nat} (hr : Rok S S1 no tp) (hno : S 3 = nI no) (hno8 : no ≤ 8) (htp4 : tp ≤ 140) (ho : Ior S no) (hcl : Icl S no) : Ior (va_up S1 3 (S1 3 + 1)) (no + 1) ∧ Icl (va_up S1 3 (S1 3 + 1)) (no + 1) ∧ ∀ j, j ≠ 3 → j ≠ 4 → (j < 9620 ∨ 11150 ≤ j) → va_up S1 3 (S1 3 + 1) j = S j := by
  obtain ⟨hf, hln, c, hc, hc8, hcs⟩ := hr
  have h3 : S1 3 = nI no := (hf 3 (by omega) (by omega) (by omega) (by omega) (by omega) (by omega) (by omega) (by omega)).trans hno
  have hu : ∀ j, j ≠ 3 → va_up S1 3 (S1 3 + 1) j = S1 j := fun j hj => va_up_ne _ _ hj
  generalize hT : va_up S1 3 (S1 3 + 1) = T at hu
  have hT3 : T 3 = nI (no + 1) := by rw [← hT, va_up_self, h3]; exact zadd rfl rfl
  have ha : ∀ a, a < no → sn T (10900 + a) = sn S (10900 + a) ∧ T (10900 + a) = S (10900 + a) := by
    intro a hl
    have e : T (10900 + a) = S (10900 + a) := (hu _ (by omega)).trans (hf _ (by omega) (by omega) (by omega) (by omega) (by omega) (by omega) (by omega) (by omega))
    exact ⟨by unfold sn; rw [e], e⟩
  have hcT : T (10900 + no) = nI c := (hu _ (by omega)).trans hc
  have hcn : sn T (10900 + no) = c := sn_of hcT (by omega)
  refine ⟨⟨hT3, by omega, fun a hl => ?_⟩, fun r r1 r2 r3 => ?_, fun j j1 j2 j3 => (hu j j1).trans (hf j j2 (by omega) (by omega) (by omega) (by omega) (by omega) (by omega) (by omega))⟩
  · by_cases e : a = no
    · subst e
      rw [hcn]; exact ⟨hcT, hc8⟩
    · obtain ⟨e1, e2⟩ := ha a (by omega)
      rw [e1, e2]; exact ho.2.2 a (by omega)
  · by_cases e : r / 8 = no
    · rw [e] at r2 ⊢
      rw [hcn] at r2
      obtain ⟨sp, k1, k2⟩ := hcs (r % 8) r2
      have er : 8 * no + r % 8 = r := by omega
      rw [er] at k1
      exact ⟨tp, sp, (hu _ (by omega)).trans hln, htp4, (hu _ (by omega)).trans k1, k2⟩
    · obtain ⟨e1, e2⟩ := ha (r / 8) (by omega)
      rw [e1] at r2
      have g := (ho.2.2 (r / 8) (by omega)).2
      rw [hu _ (by omega), hf _ (by omega) (by omega) (by omega) (by omega) (by omega) (by omega) (by omega) (by omega)] at r3
      obtain ⟨ln, sp, k1, k2, k3, k4⟩ := hcl r (by omega) r2 r3
      exact ⟨ln, sp, (hu _ (by omega)).trans ((hf _ (by omega) (by omega) (by omega) (by omega) (by omega) (by omega) (by omega) (by omega)).trans k1), k2, (hu _ (by omega)).trans ((hf _ (by omega) (by omega) (by omega) (by omega) (by omega) (by omega) (by omega) (by omega)).trans k3), k4⟩
theorem works_A {S : Nat → Int32} {A A' : Nat → Nat → Int32} {fr to d : Int32} (h9 : A 9 = A' 9) : o_works S A fr to d = o_works S A' fr to d := by simp only [o_works, h9]
theorem slope_A {S : Nat → Int32} {A A' : Nat → Nat → Int32} {a b d what : Int32} (h9 : A 9 = A' 9) (h10 : A 10 = A' 10) : o_slope S A a b d what = o_slope S A' a b d what := by
  have hw : ∀ fr to d : Int32, o_works S (va_up (va_up A 9 (A' 9)) 10 (A' 10)) fr to d = o_works S (va_up (va_up A' 9 (A' 9)) 10 (A' 10)) fr to d := fun _ _ _ => works_A rfl
  simp only [o_slope, h9, h10, hw]

def K_tried_55 (what : Int32) (S_7 : Nat → Int32) : Nat → Int32 → Int32 := fun k q55 =>
    if (2 : Int32) ≤ what then
      q55
    else
      if what = 0 then
        if (S_7 (370 + k)) = (2 : Int32) then
          if (zopen S_7 k (S_7 0)) = (-5 : Int32) then
            if (zsteep S_7 k (S_7 0)) = (-5 : Int32) then
              (q55 + (1 : Int32))
            else
              (q55 + (0 : Int32))
          else
            (q55 + (0 : Int32))
        else
          (q55 + (0 : Int32))
      else
        if (S_7 (370 + k)) = (3 : Int32) then
          if (zlet S_7 k (S_7 0)) = 0 then
            (q55 + (0 : Int32))
          else
            (q55 + (1 : Int32))
        else
          (q55 + (0 : Int32))
def o_tried (S : Nat → Int32) (A : Nat → Nat → Int32) (F : Nat → Int32) (np : Nat) (no : Nat) (tp : Nat) (what : Int32) : Int32 × (Nat → Int32) :=
  if (zin what (0 : Int32) (2 : Int32)) = 0 then
    ((-1 : Int32), S)
  else
    let v_1 := (o_readsOrder S (va_up (va_up (va_up A 8 (A 8)) 9 (A 9)) 10 (A 10)) (va_up (va_up (va_up (va_up F 4 (F 4)) 5 (F 5)) 6 (F 6)) 7 (F 7)) no tp (S 0)).1
    let v_2 := (o_readsOrder S (va_up (va_up (va_up A 8 (A 8)) 9 (A 9)) 10 (A 10)) (va_up (va_up (va_up (va_up F 4 (F 4)) 5 (F 5)) 6 (F 6)) 7 (F 7)) no tp (S 0)).2.2.1
    let v_3 := (o_readsOrder S (va_up (va_up (va_up A 8 (A 8)) 9 (A 9)) 10 (A 10)) (va_up (va_up (va_up (va_up F 4 (F 4)) 5 (F 5)) 6 (F 6)) 7 (F 7)) no tp (S 0)).2.2.2.1
    let v_4 := (o_readsOrder S (va_up (va_up (va_up A 8 (A 8)) 9 (A 9)) 10 (A 10)) (va_up (va_up (va_up (va_up F 4 (F 4)) 5 (F 5)) 6 (F 6)) 7 (F 7)) no tp (S 0)).2.2.2.2.1
    let v_5 := (o_readsOrder S (va_up (va_up (va_up A 8 (A 8)) 9 (A 9)) 10 (A 10)) (va_up (va_up (va_up (va_up F 4 (F 4)) 5 (F 5)) 6 (F 6)) 7 (F 7)) no tp (S 0)).2.2.2.2.2
    let S_6 := (o_readsOrder S (va_up (va_up (va_up A 8 (A 8)) 9 (A 9)) 10 (A 10)) (va_up (va_up (va_up (va_up F 4 (F 4)) 5 (F 5)) 6 (F 6)) 7 (F 7)) no tp (S 0)).2.1
    if v_1 = 0 then
      (((-10 : Int32) - v_3), S_6)
    else
      let S_7 := va_up S_6 3 ((S_6 3) + (1 : Int32))
      let q55 := zfold (K_tried_55 what S_7) np (0 : Int32)
      if what = (2 : Int32) then
        if (2 : Int32) ≤ (S_7 1) then
          let v_10 := (o_slope S_7 A (0 : Int32) (1 : Int32) (S_7 0) (0 : Int32)).1
          let S_11 := va_up S_7 3 ((S_7 3) - (1 : Int32))
          (v_10, S_11)
        else
          let S_13 := va_up S_7 3 ((S_7 3) - (1 : Int32))
          ((-5 : Int32), S_13)
      else
        let S_8 := va_up S_7 3 ((S_7 3) - (1 : Int32))
        (q55, S_8)
theorem c_tried {w : Wd} {h : Hp} {m : Nat} {ad : Nat → Nat} {A : Nat → Nat → Int32} {B : Nat → Nat → Int64} {F S : Nat → Int32} (mb : MB h m ad) (what : Int32) {np : Nat} (hnp : S 2 = nI np) (hnp60 : np ≤ 60) {no : Nat} (ho : Ior S no) (hcl : Icl S no) (hbl : Hbl S np) (hno : S 3 = nI no) (hno8 : no ≤ 8) {tp : Nat} (htp : S 4 = nI tp) (htp4 : tp ≤ 140) (sb : SB w h) (hpl : ∀ p, p < np → S (370 + p) = 2 → ∃ wl, Iw S p wl) {nt : Nat} (hnt : S 1 = nI nt) (hnt6 : nt ≤ 6) (htc : ∀ t, t < nt → ∃ c, S (180 + t) = nI c ∧ c < 80) (hI : Ih S) : Con w mX2_tried cX2_tried 25 0 0 [.ref m, .int what] (ms h A B F S) (Rm (o_tried S A F np no tp what).1 h A F (o_tried S A F np no tp what).2) := by
  refine Con.of (by decide +kernel) rfl rfl ?_
  show V w mX2_tried cX2_tried 25 0 0 _ 0 [some (.ref m), some (.int what), none, none, none, none] [] _
  rw [ms_extA (show A = (va_up (va_up (va_up A 8 (A 8)) 9 (A 9)) 10 (A 10)) from by
    funext q
    by_cases e8 : q = 8
    · subst e8; rfl
    by_cases e9 : q = 9
    · subst e9; rfl
    by_cases e10 : q = 10
    · subst e10; rfl
    simp only [va_up, if_neg e8, if_neg e9, if_neg e10])]
  rw [ms_extF (show F = (va_up (va_up (va_up (va_up F 4 (F 4)) 5 (F 5)) 6 (F 6)) 7 (F 7)) from by
    funext q
    by_cases e4 : q = 4
    · subst e4; rfl
    by_cases e5 : q = 5
    · subst e5; rfl
    by_cases e6 : q = 6
    · subst e6; rfl
    by_cases e7 : q = 7
    · subst e7; rfl
    simp only [va_up, if_neg e4, if_neg e5, if_neg e6, if_neg e7])]
  refine V_iload1 eX2_tried_0 ?_
  refine V_iconst (v := 0) (by decide) eX2_tried_1 ?_
  refine V_iconst (v := 2) (by decide) eX2_tried_2 ?_
  refine C0_static eX2_tried_3 lmX2_in q1966 q1967 (c_in _ _ _ _) rfl rfl rfl rfl ?_
  refine V_ifne eX2_tried_6 (fun c6 => ?_) (fun c6 => ?_)
  · refine V_aload0 eX2_tried_11 rfl ?_
    refine M_ga mb rfl eX2_tried_12 fl_X2_8_2 ?_
    refine V_iconst (v := 3) (by decide) eX2_tried_15 ?_
    refine M_sl (n := 3) mb rfl (by omega) hno eX2_tried_16 ?_
    refine V_istore2 rfl eX2_tried_17 rfl ?_
    refine V_aload0 eX2_tried_18 rfl ?_
    refine V_iload2 eX2_tried_19 ?_
    refine V_aload0 eX2_tried_20 rfl ?_
    refine M_ga mb rfl eX2_tried_21 fl_X2_8_2 ?_
    refine V_iconst (v := 0) (by decide) eX2_tried_24 ?_
    refine M_sl (n := 0) mb rfl (by omega) rfl eX2_tried_25 ?_
    refine M_call mb eX2_tried_26 lmX2_readsOrder q1997 q1999 rfl qs54 (c_readsOrder mb (A := (va_up (va_up (va_up A 8 (A 8)) 9 (A 9)) 10 (A 10))) (F := (va_up (va_up (va_up (va_up F 4 (F 4)) 5 (F 5)) 6 (F 6)) 7 (F 7))) no (S 0) (tp := tp) (by omega) htp htp4 sb) rfl rfl rfl rfl ?_
    obtain ⟨v_1, hv_1⟩ : ∃ T, T = (o_readsOrder S (va_up (va_up (va_up A 8 (A 8)) 9 (A 9)) 10 (A 10)) (va_up (va_up (va_up (va_up F 4 (F 4)) 5 (F 5)) 6 (F 6)) 7 (F 7)) no tp (S 0)).1 := ⟨_, rfl⟩
    rw [← hv_1]
    obtain ⟨v_2, hv_2⟩ : ∃ T, T = (o_readsOrder S (va_up (va_up (va_up A 8 (A 8)) 9 (A 9)) 10 (A 10)) (va_up (va_up (va_up (va_up F 4 (F 4)) 5 (F 5)) 6 (F 6)) 7 (F 7)) no tp (S 0)).2.2.1 := ⟨_, rfl⟩
    rw [← hv_2]
    obtain ⟨v_3, hv_3⟩ : ∃ T, T = (o_readsOrder S (va_up (va_up (va_up A 8 (A 8)) 9 (A 9)) 10 (A 10)) (va_up (va_up (va_up (va_up F 4 (F 4)) 5 (F 5)) 6 (F 6)) 7 (F 7)) no tp (S 0)).2.2.2.1 := ⟨_, rfl⟩
    rw [← hv_3]
    obtain ⟨v_4, hv_4⟩ : ∃ T, T = (o_readsOrder S (va_up (va_up (va_up A 8 (A 8)) 9 (A 9)) 10 (A 10)) (va_up (va_up (va_up (va_up F 4 (F 4)) 5 (F 5)) 6 (F 6)) 7 (F 7)) no tp (S 0)).2.2.2.2.1 := ⟨_, rfl⟩
    rw [← hv_4]
    obtain ⟨v_5, hv_5⟩ : ∃ T, T = (o_readsOrder S (va_up (va_up (va_up A 8 (A 8)) 9 (A 9)) 10 (A 10)) (va_up (va_up (va_up (va_up F 4 (F 4)) 5 (F 5)) 6 (F 6)) 7 (F 7)) no tp (S 0)).2.2.2.2.2 := ⟨_, rfl⟩
    rw [← hv_5]
    rw [ms_extF (show (va_up (va_up (va_up (va_up (va_up (va_up (va_up (va_up F 4 (F 4)) 5 (F 5)) 6 (F 6)) 7 (F 7)) 4 v_2) 5 v_3) 6 v_4) 7 v_5) = (va_up (va_up (va_up (va_up F 4 v_2) 5 v_3) 6 v_4) 7 v_5) from by
        funext q
        by_cases e4 : q = 4
        · subst e4; rfl
        by_cases e5 : q = 5
        · subst e5; rfl
        by_cases e6 : q = 6
        · subst e6; rfl
        by_cases e7 : q = 7
        · subst e7; rfl
        simp only [va_up, if_neg e4, if_neg e5, if_neg e6, if_neg e7])]
    obtain ⟨S_6, hS_6⟩ : ∃ T, T = (o_readsOrder S (va_up (va_up (va_up A 8 (A 8)) 9 (A 9)) 10 (A 10)) (va_up (va_up (va_up (va_up F 4 (F 4)) 5 (F 5)) 6 (F 6)) 7 (F 7)) no tp (S 0)).2.1 := ⟨_, rfl⟩
    rw [← hS_6]
    refine V_ifne eX2_tried_29 (fun c29 => ?_) (fun c29 => ?_)
    · have hrok := ro_ok (S := S) (A := (va_up (va_up (va_up A 8 (A 8)) 9 (A 9)) 10 (A 10))) (F := (va_up (va_up (va_up (va_up F 4 (F 4)) 5 (F 5)) 6 (F 6)) 7 (F 7))) (a := no) (tp := tp) (day := (S 0)) (by omega) htp4
      rw [← hS_6] at hrok
      refine V_aload0 eX2_tried_40 rfl ?_
      refine M_ga mb rfl eX2_tried_41 fl_X2_8_2 ?_
      refine V_iconst (v := 3) (by decide) eX2_tried_44 ?_
      refine V_dup2 rfl rfl eX2_tried_45 ?_
      refine M_sl (n := 3) mb rfl (by omega) rfl eX2_tried_46 ?_
      refine V_iconst (v := 1) (by decide) eX2_tried_47 ?_
      refine V_iadd eX2_tried_48 ?_
      refine M_ss (n := 3) mb rfl (by omega) eX2_tried_49 ?_
      obtain ⟨S_7, hS_7⟩ : ∃ T, T = va_up S_6 3 ((S_6 3) + (1 : Int32)) := ⟨_, rfl⟩
      rw [← hS_7]
      obtain ⟨ho, hcl, hfr⟩ := ro_next hrok hno hno8 htp4 ho hcl
      rw [← hS_7] at ho hcl hfr
      have hnp2 : S_7 2 = nI np := (hfr 2 (by omega) (by omega) (by omega)).trans hnp
      have hbl2 := Hbl_fr hbl hnp60 hfr
      have hnt2 : S_7 1 = nI nt := (hfr 1 (by omega) (by omega) (by omega)).trans hnt
      have htc2 : ∀ t, t < nt → ∃ c, S_7 (180 + t) = nI c ∧ c < 80 := fun t ht => by rw [hfr _ (by omega) (by omega) (by omega)]; exact htc t ht
      have hI2 : Ih S_7 := fun c hc => by rw [hfr _ (by omega) (by omega) (by omega)]; exact hI c hc
      refine V_iconst (v := 0) (by decide) eX2_tried_50 ?_
      refine V_istore3 rfl eX2_tried_51 rfl ?_
      refine V_iconst (v := 0) (by decide) eX2_tried_52 ?_
      refine V_istore4 rfl eX2_tried_53 rfl ?_
      refine V.le (zle_c (zle_c (zle_n (zle_c (zle_c (zle_n zle_0)))))) (zloop (P := fun k => ∀ q55 : Int32, ∀ JA8_55 : (Nat → Int32), ∀ JF4_55 : Int32, ∀ JF5_55 : Int32, ∀ JF6_55 : Int32, ∀ JF7_55 : Int32, q55 = zfold (K_tried_55 what S_7) k (0 : Int32) → V w mX2_tried cX2_tried 25 0 0 (ms h (va_up (va_up (va_up A 8 JA8_55) 9 (A 9)) 10 (A 10)) B (va_up (va_up (va_up (va_up F 4 JF4_55) 5 JF5_55) 6 JF6_55) 7 JF7_55) S_7) 55 [some (.ref m), some (.int what), none, some (.int q55), some (.int (nI k)), none] [] _) np (fun k hk ih55 q55 JA8_55 JF4_55 JF5_55 JF6_55 JF7_55 hq55  => ?_) 0 (Nat.zero_le _) (0 : Int32) (A 8) v_2 v_3 v_4 v_5 rfl )
      refine V_iload4 eX2_tried_55 ?_
      refine V_aload0 eX2_tried_57 rfl ?_
      refine M_ga mb rfl eX2_tried_58 fl_X2_8_2 ?_
      refine V_iconst (v := 2) (by decide) eX2_tried_61 ?_
      refine M_sl (n := 2) mb rfl (by omega) hnp2 eX2_tried_62 ?_
      refine V_if_icmpge eX2_tried_63 (fun c63 => ?_) (fun c63 => ?_)
      · have e55 : k = np := by have := nle c63 (by omega) (by omega); omega
        rw [e55] at hq55
        refine V_iload1 eX2_tried_188 ?_
        refine V_iconst (v := 2) (by decide) eX2_tried_189 ?_
        refine V_if_icmpne eX2_tried_190 (fun c190 => ?_) (fun c190 => ?_)
        · refine V_aload0 eX2_tried_222 rfl ?_
          refine M_ga mb rfl eX2_tried_223 fl_X2_8_2 ?_
          refine V_iconst (v := 3) (by decide) eX2_tried_226 ?_
          refine V_dup2 rfl rfl eX2_tried_227 ?_
          refine M_sl (n := 3) mb rfl (by omega) rfl eX2_tried_228 ?_
          refine V_iconst (v := 1) (by decide) eX2_tried_229 ?_
          refine V_isub eX2_tried_230 ?_
          refine M_ss (n := 3) mb rfl (by omega) eX2_tried_231 ?_
          obtain ⟨S_8, hS_8⟩ : ∃ T, T = va_up S_7 3 ((S_7 3) - (1 : Int32)) := ⟨_, rfl⟩
          rw [← hS_8]
          have hnp_9 : S_8 2 = (nI np) := by rw [hS_8]; exact rdn (by omega) hnp2
          refine V_iload3 eX2_tried_232 ?_
          have hE : (q55, S_8) = o_tried S A F np no tp what := by simp only [o_tried, ← hv_1, ← hv_2, ← hv_3, ← hv_4, ← hv_5, ← hS_6, ← hS_7, ← hq55, ← hS_8, if_neg c6, if_neg c29, if_neg c190]
          exact V_ireturn eX2_tried_233 rfl (by rw [← hE]; exact ⟨rfl, _, _, _, (by rfl), (by rfl), rfl⟩)
        · refine V_aload0 eX2_tried_193 rfl ?_
          refine M_ga mb rfl eX2_tried_194 fl_X2_8_2 ?_
          refine V_iconst (v := 1) (by decide) eX2_tried_197 ?_
          refine M_sl (n := 1) mb rfl (by omega) rfl eX2_tried_198 ?_
          refine V_iconst (v := 2) (by decide) eX2_tried_199 ?_
          refine V_if_icmpge eX2_tried_200 (fun c200 => ?_) (fun c200 => ?_)
          · refine V_aload0 eX2_tried_208 rfl ?_
            refine V_iconst (v := 0) (by decide) eX2_tried_209 ?_
            refine V_iconst (v := 1) (by decide) eX2_tried_210 ?_
            refine V_aload0 eX2_tried_211 rfl ?_
            refine M_ga mb rfl eX2_tried_212 fl_X2_8_2 ?_
            refine V_iconst (v := 0) (by decide) eX2_tried_215 ?_
            refine M_sl (n := 0) mb rfl (by omega) rfl eX2_tried_216 ?_
            refine V_iconst (v := 0) (by decide) eX2_tried_217 ?_
            refine M_call mb eX2_tried_218 lmX2_slope q2385 q2183 rfl q2184 (c_slope mb (A := (va_up (va_up (va_up A 8 JA8_55) 9 (A 9)) 10 (A 10))) (0 : Int32) (1 : Int32) (S_7 0) (0 : Int32) hnt2 hnt6 htc2 hI2 ho) rfl rfl rfl rfl ?_
            rw [slope_A (A := (va_up (va_up (va_up A 8 JA8_55) 9 (A 9)) 10 (A 10))) (A' := A) rfl rfl]
            obtain ⟨v_10, hv_10⟩ : ∃ T, T = (o_slope S_7 A (0 : Int32) (1 : Int32) (S_7 0) (0 : Int32)).1 := ⟨_, rfl⟩
            rw [← hv_10]
            obtain ⟨J9, hJ9⟩ : ∃ T, T = (o_slope S_7 A (0 : Int32) (1 : Int32) (S_7 0) (0 : Int32)).2.1 := ⟨_, rfl⟩
            rw [← hJ9]
            obtain ⟨J10, hJ10⟩ : ∃ T, T = (o_slope S_7 A (0 : Int32) (1 : Int32) (S_7 0) (0 : Int32)).2.2 := ⟨_, rfl⟩
            rw [← hJ10]
            rw [ms_extA (show va_up (va_up (va_up (va_up (va_up A 8 JA8_55) 9 (A 9)) 10 (A 10)) 9 J9) 10 J10 = (va_up (va_up (va_up A 8 JA8_55) 9 J9) 10 J10) from by
                funext q
                by_cases e8 : q = 8
                · subst e8; rfl
                by_cases e9 : q = 9
                · subst e9; rfl
                by_cases e10 : q = 10
                · subst e10; rfl
                simp only [va_up, if_neg e8, if_neg e9, if_neg e10])]
            refine V_istore3 rfl eX2_tried_221 rfl ?_
            refine V_aload0 eX2_tried_222 rfl ?_
            refine M_ga mb rfl eX2_tried_223 fl_X2_8_2 ?_
            refine V_iconst (v := 3) (by decide) eX2_tried_226 ?_
            refine V_dup2 rfl rfl eX2_tried_227 ?_
            refine M_sl (n := 3) mb rfl (by omega) rfl eX2_tried_228 ?_
            refine V_iconst (v := 1) (by decide) eX2_tried_229 ?_
            refine V_isub eX2_tried_230 ?_
            refine M_ss (n := 3) mb rfl (by omega) eX2_tried_231 ?_
            obtain ⟨S_11, hS_11⟩ : ∃ T, T = va_up S_7 3 ((S_7 3) - (1 : Int32)) := ⟨_, rfl⟩
            rw [← hS_11]
            have hnp_12 : S_11 2 = (nI np) := by rw [hS_11]; exact rdn (by omega) hnp2
            refine V_iload3 eX2_tried_232 ?_
            have hE : (v_10, S_11) = o_tried S A F np no tp what := by simp only [o_tried, ← hv_1, ← hv_2, ← hv_3, ← hv_4, ← hv_5, ← hS_6, ← hS_7, ← hq55, ← hv_10, ← hS_11, if_neg c6, if_neg c29, if_pos c190, if_pos c200]
            exact V_ireturn eX2_tried_233 rfl (by rw [← hE]; exact ⟨rfl, _, _, _, (by rfl), (by rfl), rfl⟩)
          · refine V_bipush (v := -5) (by decide) eX2_tried_203 ?_
            refine V_goto eX2_tried_205 ?_
            refine V_istore3 rfl eX2_tried_221 rfl ?_
            refine V_aload0 eX2_tried_222 rfl ?_
            refine M_ga mb rfl eX2_tried_223 fl_X2_8_2 ?_
            refine V_iconst (v := 3) (by decide) eX2_tried_226 ?_
            refine V_dup2 rfl rfl eX2_tried_227 ?_
            refine M_sl (n := 3) mb rfl (by omega) rfl eX2_tried_228 ?_
            refine V_iconst (v := 1) (by decide) eX2_tried_229 ?_
            refine V_isub eX2_tried_230 ?_
            refine M_ss (n := 3) mb rfl (by omega) eX2_tried_231 ?_
            obtain ⟨S_13, hS_13⟩ : ∃ T, T = va_up S_7 3 ((S_7 3) - (1 : Int32)) := ⟨_, rfl⟩
            rw [← hS_13]
            have hnp_14 : S_13 2 = (nI np) := by rw [hS_13]; exact rdn (by omega) hnp2
            refine V_iload3 eX2_tried_232 ?_
            have hE : ((-5 : Int32), S_13) = o_tried S A F np no tp what := by simp only [o_tried, ← hv_1, ← hv_2, ← hv_3, ← hv_4, ← hv_5, ← hS_6, ← hS_7, ← hq55, ← hS_13, if_neg c6, if_neg c29, if_pos c190, if_neg c200]
            exact V_ireturn eX2_tried_233 rfl (by rw [← hE]; exact ⟨rfl, _, _, _, (by rfl), (by rfl), rfl⟩)
      · have hl55 : k < np := by have := nnle c63 (by omega) (by omega); omega
        refine V_iload1 eX2_tried_66 ?_
        refine V_iconst (v := 2) (by decide) eX2_tried_67 ?_
        refine V_if_icmpge eX2_tried_68 (fun c68 => ?_) (fun c68 => ?_)
        · replace hq55 : q55 = zfold (K_tried_55 what S_7) np (0 : Int32) := zfold_stop hq55 (fun j => by simp only [K_tried_55, if_pos c68]) (by omega)
          refine V_iload1 eX2_tried_188 ?_
          refine V_iconst (v := 2) (by decide) eX2_tried_189 ?_
          refine V_if_icmpne eX2_tried_190 (fun c190 => ?_) (fun c190 => ?_)
          · refine V_aload0 eX2_tried_222 rfl ?_
            refine M_ga mb rfl eX2_tried_223 fl_X2_8_2 ?_
            refine V_iconst (v := 3) (by decide) eX2_tried_226 ?_
            refine V_dup2 rfl rfl eX2_tried_227 ?_
            refine M_sl (n := 3) mb rfl (by omega) rfl eX2_tried_228 ?_
            refine V_iconst (v := 1) (by decide) eX2_tried_229 ?_
            refine V_isub eX2_tried_230 ?_
            refine M_ss (n := 3) mb rfl (by omega) eX2_tried_231 ?_
            obtain ⟨S_15, hS_15⟩ : ∃ T, T = va_up S_7 3 ((S_7 3) - (1 : Int32)) := ⟨_, rfl⟩
            rw [← hS_15]
            have hnp_16 : S_15 2 = (nI np) := by rw [hS_15]; exact rdn (by omega) hnp2
            refine V_iload3 eX2_tried_232 ?_
            have hE : (q55, S_15) = o_tried S A F np no tp what := by simp only [o_tried, ← hv_1, ← hv_2, ← hv_3, ← hv_4, ← hv_5, ← hS_6, ← hS_7, ← hq55, ← hS_15, if_neg c6, if_neg c29, if_neg c190]
            exact V_ireturn eX2_tried_233 rfl (by rw [← hE]; exact ⟨rfl, _, _, _, (by rfl), (by rfl), rfl⟩)
          · refine V_aload0 eX2_tried_193 rfl ?_
            refine M_ga mb rfl eX2_tried_194 fl_X2_8_2 ?_
            refine V_iconst (v := 1) (by decide) eX2_tried_197 ?_
            refine M_sl (n := 1) mb rfl (by omega) rfl eX2_tried_198 ?_
            refine V_iconst (v := 2) (by decide) eX2_tried_199 ?_
            refine V_if_icmpge eX2_tried_200 (fun c200 => ?_) (fun c200 => ?_)
            · refine V_aload0 eX2_tried_208 rfl ?_
              refine V_iconst (v := 0) (by decide) eX2_tried_209 ?_
              refine V_iconst (v := 1) (by decide) eX2_tried_210 ?_
              refine V_aload0 eX2_tried_211 rfl ?_
              refine M_ga mb rfl eX2_tried_212 fl_X2_8_2 ?_
              refine V_iconst (v := 0) (by decide) eX2_tried_215 ?_
              refine M_sl (n := 0) mb rfl (by omega) rfl eX2_tried_216 ?_
              refine V_iconst (v := 0) (by decide) eX2_tried_217 ?_
              refine M_call mb eX2_tried_218 lmX2_slope q2385 q2183 rfl q2184 (c_slope mb (A := (va_up (va_up (va_up A 8 JA8_55) 9 (A 9)) 10 (A 10))) (0 : Int32) (1 : Int32) (S_7 0) (0 : Int32) hnt2 hnt6 htc2 hI2 ho) rfl rfl rfl rfl ?_
              rw [slope_A (A := (va_up (va_up (va_up A 8 JA8_55) 9 (A 9)) 10 (A 10))) (A' := A) rfl rfl]
              obtain ⟨v_17, hv_17⟩ : ∃ T, T = (o_slope S_7 A (0 : Int32) (1 : Int32) (S_7 0) (0 : Int32)).1 := ⟨_, rfl⟩
              rw [← hv_17]
              obtain ⟨J9, hJ9⟩ : ∃ T, T = (o_slope S_7 A (0 : Int32) (1 : Int32) (S_7 0) (0 : Int32)).2.1 := ⟨_, rfl⟩
              rw [← hJ9]
              obtain ⟨J10, hJ10⟩ : ∃ T, T = (o_slope S_7 A (0 : Int32) (1 : Int32) (S_7 0) (0 : Int32)).2.2 := ⟨_, rfl⟩
              rw [← hJ10]
              rw [ms_extA (show va_up (va_up (va_up (va_up (va_up A 8 JA8_55) 9 (A 9)) 10 (A 10)) 9 J9) 10 J10 = (va_up (va_up (va_up A 8 JA8_55) 9 J9) 10 J10) from by
                  funext q
                  by_cases e8 : q = 8
                  · subst e8; rfl
                  by_cases e9 : q = 9
                  · subst e9; rfl
                  by_cases e10 : q = 10
                  · subst e10; rfl
                  simp only [va_up, if_neg e8, if_neg e9, if_neg e10])]
              refine V_istore3 rfl eX2_tried_221 rfl ?_
              refine V_aload0 eX2_tried_222 rfl ?_
              refine M_ga mb rfl eX2_tried_223 fl_X2_8_2 ?_
              refine V_iconst (v := 3) (by decide) eX2_tried_226 ?_
              refine V_dup2 rfl rfl eX2_tried_227 ?_
              refine M_sl (n := 3) mb rfl (by omega) rfl eX2_tried_228 ?_
              refine V_iconst (v := 1) (by decide) eX2_tried_229 ?_
              refine V_isub eX2_tried_230 ?_
              refine M_ss (n := 3) mb rfl (by omega) eX2_tried_231 ?_
              obtain ⟨S_18, hS_18⟩ : ∃ T, T = va_up S_7 3 ((S_7 3) - (1 : Int32)) := ⟨_, rfl⟩
              rw [← hS_18]
              have hnp_19 : S_18 2 = (nI np) := by rw [hS_18]; exact rdn (by omega) hnp2
              refine V_iload3 eX2_tried_232 ?_
              have hE : (v_17, S_18) = o_tried S A F np no tp what := by simp only [o_tried, ← hv_1, ← hv_2, ← hv_3, ← hv_4, ← hv_5, ← hS_6, ← hS_7, ← hq55, ← hv_17, ← hS_18, if_neg c6, if_neg c29, if_pos c190, if_pos c200]
              exact V_ireturn eX2_tried_233 rfl (by rw [← hE]; exact ⟨rfl, _, _, _, (by rfl), (by rfl), rfl⟩)
            · refine V_bipush (v := -5) (by decide) eX2_tried_203 ?_
              refine V_goto eX2_tried_205 ?_
              refine V_istore3 rfl eX2_tried_221 rfl ?_
              refine V_aload0 eX2_tried_222 rfl ?_
              refine M_ga mb rfl eX2_tried_223 fl_X2_8_2 ?_
              refine V_iconst (v := 3) (by decide) eX2_tried_226 ?_
              refine V_dup2 rfl rfl eX2_tried_227 ?_
              refine M_sl (n := 3) mb rfl (by omega) rfl eX2_tried_228 ?_
              refine V_iconst (v := 1) (by decide) eX2_tried_229 ?_
              refine V_isub eX2_tried_230 ?_
              refine M_ss (n := 3) mb rfl (by omega) eX2_tried_231 ?_
              obtain ⟨S_20, hS_20⟩ : ∃ T, T = va_up S_7 3 ((S_7 3) - (1 : Int32)) := ⟨_, rfl⟩
              rw [← hS_20]
              have hnp_21 : S_20 2 = (nI np) := by rw [hS_20]; exact rdn (by omega) hnp2
              refine V_iload3 eX2_tried_232 ?_
              have hE : ((-5 : Int32), S_20) = o_tried S A F np no tp what := by simp only [o_tried, ← hv_1, ← hv_2, ← hv_3, ← hv_4, ← hv_5, ← hS_6, ← hS_7, ← hq55, ← hS_20, if_neg c6, if_neg c29, if_pos c190, if_neg c200]
              exact V_ireturn eX2_tried_233 rfl (by rw [← hE]; exact ⟨rfl, _, _, _, (by rfl), (by rfl), rfl⟩)
        · refine V_iload1 eX2_tried_71 ?_
          refine V_ifne eX2_tried_72 (fun c72 => ?_) (fun c72 => ?_)
          · refine V_aload0 eX2_tried_132 rfl ?_
            refine M_ga mb rfl eX2_tried_133 fl_X2_8_2 ?_
            refine V_sipush (v := 370) (by decide) eX2_tried_136 ?_
            refine V_iload4 eX2_tried_139 ?_
            refine V_iadd eX2_tried_141 ?_
            refine M_sl (n := (370 + k)) mb (zadd rfl rfl) (by omega) rfl eX2_tried_142 ?_
            refine V_iconst (v := 3) (by decide) eX2_tried_143 ?_
            refine V_if_icmpne eX2_tried_144 (fun c144 => ?_) (fun c144 => ?_)
            · refine V_iconst (v := 0) (by decide) eX2_tried_166 ?_
              refine V_istore5 rfl eX2_tried_167 rfl ?_
              refine V_iload3 eX2_tried_169 ?_
              refine V_iload5 eX2_tried_170 ?_
              refine V_ifeq eX2_tried_172 (fun c172 => ?_) (fun c172 => absurd c172 (by decide))
              refine V_iconst (v := 0) (by decide) eX2_tried_179 ?_
              refine V_iadd eX2_tried_180 ?_
              refine V_istore3 rfl eX2_tried_181 rfl ?_
              refine V_iincN4 rfl eX2_tried_182 rfl ?_
              refine V_goto eX2_tried_185 ?_
              exact V.le (zle_c (zle_c (zle_n (zle_c (zle_c (zle_n zle_0)))))) (ih55 hl55 (q55 + (0 : Int32)) JA8_55 JF4_55 JF5_55 JF6_55 JF7_55 (by rw [zfold_s (n := k), ← hq55]; simp only [K_tried_55, if_neg c68, if_neg c72, if_neg c144])  )
            · refine V_aload0 eX2_tried_147 rfl ?_
              refine V_iload4 eX2_tried_148 ?_
              refine V_aload0 eX2_tried_150 rfl ?_
              refine M_ga mb rfl eX2_tried_151 fl_X2_8_2 ?_
              refine V_iconst (v := 0) (by decide) eX2_tried_154 ?_
              refine M_sl (n := 0) mb rfl (by omega) rfl eX2_tried_155 ?_
              obtain ⟨JRj22, Jfj22a, Jfj22b, Jfj22c, Jfj22d, hconj22⟩ := c_let (w := w) (A := (va_up (va_up (va_up A 8 JA8_55) 9 (A 9)) 10 (A 10))) (B := B) (F := (va_up (va_up (va_up (va_up F 4 JF4_55) 5 JF5_55) 6 JF6_55) 7 JF7_55)) (S := S_7) mb k (S_7 0) hnp2 hnp60 ho hcl (by omega) (hbl2 k hl55 c144)
              refine M_call mb eX2_tried_156 lmX2_canBeLet q2206 q2208 rfl qs78 hconj22 rfl rfl rfl rfl ?_
              rw [ms_extA (show va_up (va_up (va_up (va_up A 8 JA8_55) 9 (A 9)) 10 (A 10)) 8 JRj22 = (va_up (va_up (va_up A 8 JRj22) 9 (A 9)) 10 (A 10)) from by
                  funext q
                  by_cases e8 : q = 8
                  · subst e8; rfl
                  by_cases e9 : q = 9
                  · subst e9; rfl
                  by_cases e10 : q = 10
                  · subst e10; rfl
                  simp only [va_up, if_neg e8, if_neg e9, if_neg e10])]
              rw [ms_extF (show (va_up (va_up (va_up (va_up (va_up (va_up (va_up (va_up F 4 JF4_55) 5 JF5_55) 6 JF6_55) 7 JF7_55) 4 Jfj22a) 5 Jfj22b) 6 Jfj22c) 7 Jfj22d) = (va_up (va_up (va_up (va_up F 4 Jfj22a) 5 Jfj22b) 6 Jfj22c) 7 Jfj22d) from by
                  funext q
                  by_cases e4 : q = 4
                  · subst e4; rfl
                  by_cases e5 : q = 5
                  · subst e5; rfl
                  by_cases e6 : q = 6
                  · subst e6; rfl
                  by_cases e7 : q = 7
                  · subst e7; rfl
                  simp only [va_up, if_neg e4, if_neg e5, if_neg e6, if_neg e7])]
              refine V_ifeq eX2_tried_159 (fun c159 => ?_) (fun c159 => ?_)
              · refine V_iconst (v := 0) (by decide) eX2_tried_166 ?_
                refine V_istore5 rfl eX2_tried_167 rfl ?_
                refine V_iload3 eX2_tried_169 ?_
                refine V_iload5 eX2_tried_170 ?_
                refine V_ifeq eX2_tried_172 (fun c172 => ?_) (fun c172 => absurd c172 (by decide))
                refine V_iconst (v := 0) (by decide) eX2_tried_179 ?_
                refine V_iadd eX2_tried_180 ?_
                refine V_istore3 rfl eX2_tried_181 rfl ?_
                refine V_iincN4 rfl eX2_tried_182 rfl ?_
                refine V_goto eX2_tried_185 ?_
                exact V.le (zle_c (zle_c (zle_n (zle_c (zle_c (zle_n zle_0)))))) (ih55 hl55 (q55 + (0 : Int32)) JRj22 Jfj22a Jfj22b Jfj22c Jfj22d (by rw [zfold_s (n := k), ← hq55]; simp only [K_tried_55, if_neg c68, if_neg c72, if_pos c144, if_pos c159])  )
              · refine V_iconst (v := 1) (by decide) eX2_tried_162 ?_
                refine V_goto eX2_tried_163 ?_
                refine V_istore5 rfl eX2_tried_167 rfl ?_
                refine V_iload3 eX2_tried_169 ?_
                refine V_iload5 eX2_tried_170 ?_
                refine V_ifeq eX2_tried_172 (fun c172 => absurd c172 (by decide)) (fun c172 => ?_)
                refine V_iconst (v := 1) (by decide) eX2_tried_175 ?_
                refine V_goto eX2_tried_176 ?_
                refine V_iadd eX2_tried_180 ?_
                refine V_istore3 rfl eX2_tried_181 rfl ?_
                refine V_iincN4 rfl eX2_tried_182 rfl ?_
                refine V_goto eX2_tried_185 ?_
                exact V.le (zle_c (zle_c (zle_n (zle_c (zle_c (zle_n zle_0)))))) (ih55 hl55 (q55 + (1 : Int32)) JRj22 Jfj22a Jfj22b Jfj22c Jfj22d (by rw [zfold_s (n := k), ← hq55]; simp only [K_tried_55, if_neg c68, if_neg c72, if_pos c144, if_neg c159])  )
          · refine V_aload0 eX2_tried_75 rfl ?_
            refine M_ga mb rfl eX2_tried_76 fl_X2_8_2 ?_
            refine V_sipush (v := 370) (by decide) eX2_tried_79 ?_
            refine V_iload4 eX2_tried_82 ?_
            refine V_iadd eX2_tried_84 ?_
            refine M_sl (n := (370 + k)) mb (zadd rfl rfl) (by omega) rfl eX2_tried_85 ?_
            refine V_iconst (v := 2) (by decide) eX2_tried_86 ?_
            refine V_if_icmpne eX2_tried_87 (fun c87 => ?_) (fun c87 => ?_)
            · refine V_iconst (v := 0) (by decide) eX2_tried_128 ?_
              refine V_goto eX2_tried_129 ?_
              refine V_istore5 rfl eX2_tried_167 rfl ?_
              refine V_iload3 eX2_tried_169 ?_
              refine V_iload5 eX2_tried_170 ?_
              refine V_ifeq eX2_tried_172 (fun c172 => ?_) (fun c172 => absurd c172 (by decide))
              refine V_iconst (v := 0) (by decide) eX2_tried_179 ?_
              refine V_iadd eX2_tried_180 ?_
              refine V_istore3 rfl eX2_tried_181 rfl ?_
              refine V_iincN4 rfl eX2_tried_182 rfl ?_
              refine V_goto eX2_tried_185 ?_
              exact V.le (zle_c (zle_c (zle_n (zle_c (zle_c (zle_n zle_0)))))) (ih55 hl55 (q55 + (0 : Int32)) JA8_55 JF4_55 JF5_55 JF6_55 JF7_55 (by rw [zfold_s (n := k), ← hq55]; simp only [K_tried_55, if_neg c68, if_pos c72, if_neg c87])  )
            · obtain ⟨wl, hw⟩ := hpl k hl55 (by rw [← hfr _ (by omega) (by omega) (by omega)]; exact c87)
              have hw2 := Iw_fr hw (by omega) hfr
              refine V_aload0 eX2_tried_90 rfl ?_
              refine V_iload4 eX2_tried_91 ?_
              refine V_aload0 eX2_tried_93 rfl ?_
              refine M_ga mb rfl eX2_tried_94 fl_X2_8_2 ?_
              refine V_iconst (v := 0) (by decide) eX2_tried_97 ?_
              refine M_sl (n := 0) mb rfl (by omega) rfl eX2_tried_98 ?_
              refine M_call mb eX2_tried_99 lmX2_notClose q2170 q2172 rfl qs74 (c_notClose mb (p := k) (wl := wl) _ (by omega) hw2 ho) rfl rfl rfl rfl ?_
              refine V_bipush (v := -5) (by decide) eX2_tried_102 ?_
              refine V_if_icmpne eX2_tried_104 (fun c104 => ?_) (fun c104 => ?_)
              · refine V_iconst (v := 0) (by decide) eX2_tried_128 ?_
                refine V_goto eX2_tried_129 ?_
                refine V_istore5 rfl eX2_tried_167 rfl ?_
                refine V_iload3 eX2_tried_169 ?_
                refine V_iload5 eX2_tried_170 ?_
                refine V_ifeq eX2_tried_172 (fun c172 => ?_) (fun c172 => absurd c172 (by decide))
                refine V_iconst (v := 0) (by decide) eX2_tried_179 ?_
                refine V_iadd eX2_tried_180 ?_
                refine V_istore3 rfl eX2_tried_181 rfl ?_
                refine V_iincN4 rfl eX2_tried_182 rfl ?_
                refine V_goto eX2_tried_185 ?_
                exact V.le (zle_c (zle_c (zle_n (zle_c (zle_c (zle_n zle_0)))))) (ih55 hl55 (q55 + (0 : Int32)) JA8_55 JF4_55 JF5_55 JF6_55 JF7_55 (by rw [zfold_s (n := k), ← hq55]; simp only [K_tried_55, if_neg c68, if_pos c72, if_pos c87, if_neg c104])  )
              · refine V_aload0 eX2_tried_107 rfl ?_
                refine V_iload4 eX2_tried_108 ?_
                refine V_aload0 eX2_tried_110 rfl ?_
                refine M_ga mb rfl eX2_tried_111 fl_X2_8_2 ?_
                refine V_iconst (v := 0) (by decide) eX2_tried_114 ?_
                refine M_sl (n := 0) mb rfl (by omega) rfl eX2_tried_115 ?_
                refine M_call mb eX2_tried_116 lmX2_steep q2174 q2176 rfl qs75 (c_steep mb (p := k) (wl := wl) _ (by omega) hw2 ho) rfl rfl rfl rfl ?_
                refine V_bipush (v := -5) (by decide) eX2_tried_119 ?_
                refine V_if_icmpne eX2_tried_121 (fun c121 => ?_) (fun c121 => ?_)
                · refine V_iconst (v := 0) (by decide) eX2_tried_128 ?_
                  refine V_goto eX2_tried_129 ?_
                  refine V_istore5 rfl eX2_tried_167 rfl ?_
                  refine V_iload3 eX2_tried_169 ?_
                  refine V_iload5 eX2_tried_170 ?_
                  refine V_ifeq eX2_tried_172 (fun c172 => ?_) (fun c172 => absurd c172 (by decide))
                  refine V_iconst (v := 0) (by decide) eX2_tried_179 ?_
                  refine V_iadd eX2_tried_180 ?_
                  refine V_istore3 rfl eX2_tried_181 rfl ?_
                  refine V_iincN4 rfl eX2_tried_182 rfl ?_
                  refine V_goto eX2_tried_185 ?_
                  exact V.le (zle_c (zle_c (zle_n (zle_c (zle_c (zle_n zle_0)))))) (ih55 hl55 (q55 + (0 : Int32)) JA8_55 JF4_55 JF5_55 JF6_55 JF7_55 (by rw [zfold_s (n := k), ← hq55]; simp only [K_tried_55, if_neg c68, if_pos c72, if_pos c87, if_pos c104, if_neg c121])  )
                · refine V_iconst (v := 1) (by decide) eX2_tried_124 ?_
                  refine V_goto eX2_tried_125 ?_
                  refine V_istore5 rfl eX2_tried_167 rfl ?_
                  refine V_iload3 eX2_tried_169 ?_
                  refine V_iload5 eX2_tried_170 ?_
                  refine V_ifeq eX2_tried_172 (fun c172 => absurd c172 (by decide)) (fun c172 => ?_)
                  refine V_iconst (v := 1) (by decide) eX2_tried_175 ?_
                  refine V_goto eX2_tried_176 ?_
                  refine V_iadd eX2_tried_180 ?_
                  refine V_istore3 rfl eX2_tried_181 rfl ?_
                  refine V_iincN4 rfl eX2_tried_182 rfl ?_
                  refine V_goto eX2_tried_185 ?_
                  exact V.le (zle_c (zle_c (zle_n (zle_c (zle_c (zle_n zle_0)))))) (ih55 hl55 (q55 + (1 : Int32)) JA8_55 JF4_55 JF5_55 JF6_55 JF7_55 (by rw [zfold_s (n := k), ← hq55]; simp only [K_tried_55, if_neg c68, if_pos c72, if_pos c87, if_pos c104, if_pos c121])  )
    · refine V_bipush (v := -10) (by decide) eX2_tried_32 ?_
      refine V_aload0 eX2_tried_34 rfl ?_
      refine M_gi mb (Or.inl rfl) (show _ = v_3 from rfl) eX2_tried_35 fl_X2_75_2 ?_
      refine V_isub eX2_tried_38 ?_
      have hE : (((-10 : Int32) - v_3), S_6) = o_tried S A F np no tp what := by simp only [o_tried, ← hv_1, ← hv_2, ← hv_3, ← hv_4, ← hv_5, ← hS_6, if_neg c6, if_pos c29]
      exact V_ireturn eX2_tried_39 rfl (by rw [← hE]; exact ⟨rfl, _, _, _, (by rfl), (by rfl), rfl⟩)
  · refine V_iconst (v := -1) (by decide) eX2_tried_9 ?_
    have hE : ((-1 : Int32), S) = o_tried S A F np no tp what := by simp only [o_tried, if_pos c6]
    exact V_ireturn eX2_tried_10 rfl (by rw [← hE]; exact ⟨rfl, _, _, _, (by rfl), (by rfl), rfl⟩)

