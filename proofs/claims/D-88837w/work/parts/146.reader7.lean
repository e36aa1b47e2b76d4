/-- what reading one clause of order a leaves alone -/
def RdF (S S' : Nat → Int32) (a : Nat) : Prop := ∀ j, j ≠ 10900 + a → (j < 10910 + 8 * a ∨ 10918 + 8 * a ≤ j) → (j < 10990 + 8 * a ∨ 10998 + 8 * a ≤ j) → (j < 11070 + 8 * a ∨ 11078 + 8 * a ≤ j) → S' j = S j
theorem rd_leaf {S : Nat → Int32} {a lc : Nat} (hl : lc < 8) (ha : a < 9) (x y z : Int32) : RdF S (va_up (va_up (va_up (va_up S (10910 + (8 * a + lc)) x) (11070 + (8 * a + lc)) y) (10990 + (8 * a + lc)) z) (10900 + a) (nI lc + 1)) a := by
  intro j h1 h2 h3 h4
  rw [va_up_ne _ _ (by omega), va_up_ne _ _ (by omega), va_up_ne _ _ (by omega), va_up_ne _ _ (by omega)]
def RdOk (S : Nat → Int32) (a sp ln lc : Nat) (q : (Nat → Int32) × Int32 × Int32) : Prop := ∃ s, q.2.1 = nI s ∧ sp ≤ s ∧ s ≤ ln ∧ (q.2.2 = 0 ∨ q.2.2 = 1) ∧ ∃ c, q.1 (10900 + a) = nI c ∧ c ≤ 8 ∧ (q.2.2 = 0 → lc < c) ∧ RdF S q.1 a
theorem RdOk.mk {S x : Nat → Int32} {a sp ln lc : Nat} {y z : Int32} (s c : Nat) (h1 : y = nI s) (h2 : sp ≤ s) (h3 : s ≤ ln) (h4 : z = 0 ∨ z = 1) (h5 : x (10900 + a) = nI c) (h6 : c ≤ 8) (h7 : z = 0 → lc < c) (h8 : RdF S x a) : RdOk S a sp ln lc (x, y, z) := ⟨s, h1, h2, h3, h4, c, h5, h6, h7, h8⟩
theorem rd_ok {S : Nat → Int32} {A : Nat → Nat → Int32} {F : Nat → Int32} {a sp ln lc : Nat} (hs : sp ≤ ln) (hl : ln ≤ 140) (hc : lc < 8) (hlc : S (10900 + a) = nI lc) (ha : a < 9) : RdOk S a sp ln lc (o_reads S A F a sp ln lc) := by
  obtain ⟨s1, h1, h1a, h1b, h1w, k, hk, hk7⟩ := ow_ok (S := S) (F := va_up (va_up (va_up F 5 (nI sp)) 6 (0 : Int32)) 7 (nI 0)) (a := a) (sp := sp) (ln := ln) hs hl rfl
  have e1 : ((o_oneWord S (va_up (va_up (va_up F 5 (nI sp)) 6 (0 : Int32)) 7 (nI 0)) a sp ln).2.1).toNatClampNeg = s1 := by rw [h1]; exact nI_clamp (by omega)
  have ek : ((o_oneWord S (va_up (va_up (va_up F 5 (nI sp)) 6 (0 : Int32)) 7 (nI 0)) a sp ln).1).toNatClampNeg = k := by rw [hk]; exact nI_clamp (by omega)
  have hs1 : (nI lc + 1 : Int32) = nI (lc + 1) := zadd rfl rfl
  have L := fun x y z => rd_leaf (S := S) hc ha x y z
  have G := fun (T : Nat → Int32) => (va_up_self T (10900 + a) (nI lc + 1)).trans hs1
  simp only [o_reads, e1, ek]
  split
  · split
    · split
      · next q => exact RdOk.mk (s1 + 1) (lc + 1) rfl (by omega) (by have := here_lt (by rw [q]; decide) h1b hl; omega) (Or.inl rfl) (G _) (by omega) (fun _ => by omega) (L _ _ _)
      · split
        · next q => exact RdOk.mk (s1 + 1) (lc + 1) rfl (by omega) (by have := here_lt (by rw [q]; decide) h1b hl; omega) (Or.inl rfl) (G _) (by omega) (fun _ => by omega) (L _ _ _)
        · exact RdOk.mk (s1 + 0) (lc + 1) rfl (by omega) (by omega) (Or.inr rfl) (G _) (by omega) (fun _ => by omega) (L _ _ _)
    · split
      · have hp : ∃ s, (z_som (va_up (va_up S (10910 + (8 * a + lc)) (nI k)) (11070 + (8 * a + lc)) (nI s1)) A a ln 5 s1).2.1 = nI s ∧ s1 ≤ s ∧ s ≤ ln ∧ ((z_som (va_up (va_up S (10910 + (8 * a + lc)) (nI k)) (11070 + (8 * a + lc)) (nI s1)) A a ln 5 s1).2.2 = 0 ∨ (z_som (va_up (va_up S (10910 + (8 * a + lc)) (nI k)) (11070 + (8 * a + lc)) (nI s1)) A a ln 5 s1).2.2 = 1) ∧ ((z_som (va_up (va_up S (10910 + (8 * a + lc)) (nI k)) (11070 + (8 * a + lc)) (nI s1)) A a ln 5 s1).1 = 0 ∨ (z_som (va_up (va_up S (10910 + (8 * a + lc)) (nI k)) (11070 + (8 * a + lc)) (nI s1)) A a ln 5 s1).1 = 1) := z_som_PW hl 5 s1 h1b
        generalize z_som (va_up (va_up S (10910 + (8 * a + lc)) (nI k)) (11070 + (8 * a + lc)) (nI s1)) A a ln 5 s1 = Z at hp ⊢
        obtain ⟨s2, g1, g2, g3, g4, g5⟩ := hp
        exact RdOk.mk s2 (lc + 1) (congrArg nI (by rw [g1]; exact nI_clamp (by omega))) (by omega) g3 g4 (G _) (by omega) (fun _ => by omega) (L _ _ _)
      · obtain ⟨s2, g1, g2, g3, g4, g5⟩ := num_ok (S := va_up (va_up S (10910 + (8 * a + lc)) (nI k)) (11070 + (8 * a + lc)) (nI s1)) (F := va_up (va_up (va_up F 5 (nI s1)) 6 (o_oneWord S (va_up (va_up (va_up F 5 (nI sp)) 6 (0 : Int32)) 7 (nI 0)) a sp ln).2.2) 7 (nI 0)) (a := a) h1b hl
        exact RdOk.mk s2 (lc + 1) (congrArg nI (by rw [g1]; exact nI_clamp (by omega))) (by omega) g3 g4 (G _) (by omega) (fun _ => by omega) (L _ _ _)
  · next q => exact RdOk.mk s1 lc rfl h1a h1b h1w hlc (by omega) (fun e => absurd e q) (fun j _ _ _ _ => rfl)
def roI (S1 : Nat → Int32) (a ln : Nat) (q : (Nat → Int32) × Int32 × Int32) : Prop := ∃ u, q.2.1 = nI u ∧ u ≤ ln ∧ (q.2.2 = 0 ∨ q.2.2 = 1) ∧ ∃ c, q.1 (10900 + a) = nI c ∧ c ≤ 8 ∧ RdF S1 q.1 a
def roM (a : Nat) (q : (Nat → Int32) × Int32 × Int32) : Nat := if q.2.2 = 0 then 9 - sn q.1 (10900 + a) else 0
theorem roM_0 (a : Nat) (q : (Nat → Int32) × Int32 × Int32) : roM a q ≤ zBIG := by
  unfold roM; split <;> (show _ ≤ 100000000) <;> omega
def K_readsOrder_114 (A : Nat → Nat → Int32) (F : Nat → Int32) (a : Nat) (tp : Nat) : (Nat → Int32) × Int32 × Int32 → Option ((Nat → Int32) × Int32 × Int32) := fun q114 =>
    let u := q114.2.1.toNatClampNeg
    let lc := sn q114.1 (10900 + a)
    if q114.2.2 = 0 then
      if (8 : Int32) ≤ (nI lc) then
        none
      else
        if (o_here q114.1 a u tp) = (59 : Int32) then
          let s15 := (((o_reads q114.1 A (va_up (va_up (va_up (va_up F 4 (nI a)) 5 (nI (u + 1))) 6 q114.2.2) 7 (nI 0)) a (u + 1) tp lc).2).1).toNatClampNeg
          let t1 := (o_reads q114.1 A (va_up (va_up (va_up (va_up F 4 (nI a)) 5 (nI (u + 1))) 6 q114.2.2) 7 (nI 0)) a (u + 1) tp lc).1
          some (t1, (nI s15), ((o_reads q114.1 A (va_up (va_up (va_up (va_up F 4 (nI a)) 5 (nI (u + 1))) 6 q114.2.2) 7 (nI 0)) a (u + 1) tp lc).2).2)
        else
          none
    else
      none
def K_readsOrder_29 (a : Nat) : Nat → (Nat → Int32) → (Nat → Int32) := fun k q29 =>
    let t1 := va_up q29 ((9640 + (140 * a)) + k) (q29 (11150 + k))
    t1
def o_readsOrder (S : Nat → Int32) (A : Nat → Nat → Int32) (F : Nat → Int32) (a : Nat) (tp : Nat) (day : Int32) : Int32 × (Nat → Int32) × Int32 × Int32 × Int32 × Int32 :=
  let S_1 := va_up S (9620 + a) day
  let S_3 := va_up S_1 (9630 + a) (nI tp)
  let q29 := zfold (K_readsOrder_29 a) tp S_3
  let S_8 := va_up q29 4 (0 : Int32)
  let S_10 := va_up S_8 (10900 + a) (0 : Int32)
  let s13 := (((o_reads S_10 A (va_up (va_up (va_up (va_up F 4 (nI a)) 5 (0 : Int32)) 6 (0 : Int32)) 7 (0 : Int32)) a 0 tp 0).2).1).toNatClampNeg
  let S_14 := (o_reads S_10 A (va_up (va_up (va_up (va_up F 4 (nI a)) 5 (0 : Int32)) 6 (0 : Int32)) 7 (0 : Int32)) a 0 tp 0).1
  let q114 := zwh (K_readsOrder_114 A F a tp) zBIG (S_14, (nI s13), ((o_reads S_10 A (va_up (va_up (va_up (va_up F 4 (nI a)) 5 (0 : Int32)) 6 (0 : Int32)) 7 (0 : Int32)) a 0 tp 0).2).2)
  let u := q114.2.1.toNatClampNeg
  if q114.2.2 = 0 then
    if (nI u) = (nI tp) then
      ((1 : Int32), q114.1, (nI a), (nI u), (0 : Int32), (nI 0))
    else
      ((0 : Int32), q114.1, (nI a), (nI u), (1 : Int32), (nI 0))
  else
    ((0 : Int32), q114.1, (nI a), (nI u), (1 : Int32), (nI 0))
theorem ro_K {A : Nat → Nat → Int32} {F : Nat → Int32} {a : Nat} {tp : Nat} {S1 : Nat → Int32} (htp4 : tp ≤ 140) (ha : a < 9) {q r : (Nat → Int32) × Int32 × Int32} (hI : roI S1 a tp q) (hK : (K_readsOrder_114 A F a tp) q = some r) : roI S1 a tp r ∧ roM a r < roM a q := by
  obtain ⟨u, hu1, hu2, hu3, lc, hqc, hlc8, hfr⟩ := hI
  have huc : q.2.1.toNatClampNeg = u := by rw [hu1]; exact nI_clamp (by omega)
  have hlcc : sn q.1 (10900 + a) = lc := sn_of hqc (by omega)
  simp only [K_readsOrder_114, huc, hlcc] at hK
  split at hK
  · next h6 =>
    split at hK
    · cases hK
    · next h8 =>
      have hlc7 : lc < 8 := nnle (a := 8) h8 (by omega) (by omega)
      split at hK
      · next h59 =>
        have hul := here_lt (a := a) (sp := u) (ln := tp) (S := q.1) (by rw [h59]; decide) (by omega) htp4
        generalize hFF : (va_up (va_up (va_up (va_up F 4 (nI a)) 5 (nI (u + 1))) 6 q.2.2) 7 (nI 0)) = FF at hK
        obtain ⟨s, g1, g2, g3, g4, c, g5, g6, g7, g8⟩ := rd_ok (S := q.1) (A := A) (F := FF) (a := a) (sp := u + 1) (ln := tp) (lc := lc) (by omega) htp4 hlc7 hqc ha
        have hsc : ((o_reads q.1 A FF a (u + 1) tp lc).2.1).toNatClampNeg = s := by rw [g1]; exact nI_clamp (by omega)
        cases hK
        refine ⟨⟨s, hsc ▸ rfl, g3, g4, c, g5, g6, fun j k1 k2 k3 k4 => (g8 j k1 k2 k3 k4).trans (hfr j k1 k2 k3 k4)⟩, ?_⟩
        unfold roM
        rw [if_pos h6, hlcc]
        split
        · next h0 =>
          have := g7 h0
          have e : sn (o_reads q.1 A FF a (u + 1) tp lc).1 (10900 + a) = c := sn_of g5 (by omega)
          show 9 - sn (o_reads q.1 A FF a (u + 1) tp lc).1 (10900 + a) < _
          omega
        · omega
      · cases hK
  · cases hK
theorem c_readsOrder {w : Wd} {h : Hp} {m : Nat} {ad : Nat → Nat} {A : Nat → Nat → Int32} {B : Nat → Nat → Int64} {F S : Nat → Int32} (mb : MB h m ad) (a : Nat) (day : Int32) {tp : Nat} (ha : a < 9) (htp : S 4 = nI tp) (htp4 : tp ≤ 140) (sb : SB w h) : Con w mX2_readsOrder cX2_readsOrder 24 0 0 [.ref m, .int (nI a), .int day] (ms h A B F S) (Rv (.int (o_readsOrder S A F a tp day).1) (ms h A B (va_up (va_up (va_up (va_up F 4 (o_readsOrder S A F a tp day).2.2.1) 5 (o_readsOrder S A F a tp day).2.2.2.1) 6 (o_readsOrder S A F a tp day).2.2.2.2.1) 7 (o_readsOrder S A F a tp day).2.2.2.2.2) (o_readsOrder S A F a tp day).2.1)) := by
  refine Con.of (by decide +kernel) rfl rfl ?_
  show V w mX2_readsOrder cX2_readsOrder 24 0 0 _ 0 [some (.ref m), some (.int (nI a)), some (.int day), none] [] _
  rw [ms_extF (show F = (va_up (va_up (va_up (va_up F 4 (F 4)) 5 (F 5)) 6 (F 6)) 7 (F 7)) from by
    funext q
    by_cases e4 : q = 4
    · subst e4; rfl
    by_cases e5 : q = 5
    · subst e5; rfl
    by_cases e6 : q = 6
    · subst e6; rfl
    by_cases e7 : q = 7
    · subst e7; rfl
    simp only [va_up, if_neg e4, if_neg e5, if_neg e6, if_neg e7])]
  refine V_aload0 eX2_readsOrder_0 rfl ?_
  refine M_ga mb rfl eX2_readsOrder_1 fl_X2_8_2 ?_
  refine V_sipush (v := 9620) (by decide) eX2_readsOrder_4 ?_
  refine V_iload1 eX2_readsOrder_7 ?_
  refine V_iadd eX2_readsOrder_8 ?_
  refine V_iload2 eX2_readsOrder_9 ?_
  refine M_ss (n := (9620 + a)) mb (zadd rfl rfl) (by omega) eX2_readsOrder_10 ?_
  obtain ⟨S_1, hS_1⟩ : ∃ T, T = va_up S (9620 + a) day := ⟨_, rfl⟩
  rw [← hS_1]
  have htp_2 : S_1 4 = (nI tp) := by rw [hS_1]; exact rdn (by omega) htp
  refine V_aload0 eX2_readsOrder_11 rfl ?_
  refine M_ga mb rfl eX2_readsOrder_12 fl_X2_8_2 ?_
  refine V_sipush (v := 9630) (by decide) eX2_readsOrder_15 ?_
  refine V_iload1 eX2_readsOrder_18 ?_
  refine V_iadd eX2_readsOrder_19 ?_
  refine V_aload0 eX2_readsOrder_20 rfl ?_
  refine M_ga mb rfl eX2_readsOrder_21 fl_X2_8_2 ?_
  refine V_iconst (v := 4) (by decide) eX2_readsOrder_24 ?_
  refine M_sl (n := 4) mb rfl (by omega) htp_2 eX2_readsOrder_25 ?_
  refine M_ss (n := (9630 + a)) mb (zadd rfl rfl) (by omega) eX2_readsOrder_26 ?_
  obtain ⟨S_3, hS_3⟩ : ∃ T, T = va_up S_1 (9630 + a) (nI tp) := ⟨_, rfl⟩
  rw [← hS_3]
  have htp_4 : S_3 4 = (nI tp) := by rw [hS_3]; exact rdn (by omega) htp_2
  have hk_5 : S_3 (9630 + a) = (nI tp) := by rw [hS_3]; exact va_up_self _ _ _
  refine V_iconst (v := 0) (by decide) eX2_readsOrder_27 ?_
  refine V_istore3 rfl eX2_readsOrder_28 rfl ?_
  refine V.le (zle_c (zle_c (zle_n (zle_c zle_0)))) (zloop (P := fun k => ∀ q29 : (Nat → Int32), q29 = zfold (K_readsOrder_29 a) k S_3 → (q29 4 = (nI tp)) → (q29 (9630 + a) = (nI tp)) → V w mX2_readsOrder cX2_readsOrder 24 0 0 (ms h A B (va_up (va_up (va_up (va_up F 4 (F 4)) 5 (F 5)) 6 (F 6)) 7 (F 7)) q29) 29 [some (.ref m), some (.int (nI a)), none, some (.int (nI k))] [] _) tp (fun k hk ih29 q29 hq29 htp_6 hk_7 => ?_) 0 (Nat.zero_le _) S_3 rfl htp_4 hk_5)
  refine V_iload3 eX2_readsOrder_29 ?_
  refine V_aload0 eX2_readsOrder_30 rfl ?_
  refine M_ga mb rfl eX2_readsOrder_31 fl_X2_8_2 ?_
  refine V_iconst (v := 4) (by decide) eX2_readsOrder_34 ?_
  refine M_sl (n := 4) mb rfl (by omega) htp_6 eX2_readsOrder_35 ?_
  refine V_if_icmpge eX2_readsOrder_36 (fun c36 => ?_) (fun c36 => ?_)
  · have e29 : k = tp := by have := nle c36 (by omega) (by omega); omega
    rw [e29] at hq29
    refine V_aload0 eX2_readsOrder_71 rfl ?_
    refine M_ga mb rfl eX2_readsOrder_72 fl_X2_8_2 ?_
    refine V_iconst (v := 4) (by decide) eX2_readsOrder_75 ?_
    refine V_iconst (v := 0) (by decide) eX2_readsOrder_76 ?_
    refine M_ss (n := 4) mb rfl (by omega) eX2_readsOrder_77 ?_
    obtain ⟨S_8, hS_8⟩ : ∃ T, T = va_up q29 4 (0 : Int32) := ⟨_, rfl⟩
    rw [← hS_8]
    have hk_9 : S_8 (9630 + a) = (nI tp) := by rw [hS_8]; exact rdn (by omega) hk_7
    refine V_aload0 eX2_readsOrder_78 rfl ?_
    refine M_ga mb rfl eX2_readsOrder_79 fl_X2_8_2 ?_
    refine V_sipush (v := 10900) (by decide) eX2_readsOrder_82 ?_
    refine V_iload1 eX2_readsOrder_85 ?_
    refine V_iadd eX2_readsOrder_86 ?_
    refine V_iconst (v := 0) (by decide) eX2_readsOrder_87 ?_
    refine M_ss (n := (10900 + a)) mb (zadd rfl rfl) (by omega) eX2_readsOrder_88 ?_
    obtain ⟨S_10, hS_10⟩ : ∃ T, T = va_up S_8 (10900 + a) (0 : Int32) := ⟨_, rfl⟩
    rw [← hS_10]
    have hk_11 : S_10 (9630 + a) = (nI tp) := by rw [hS_10]; exact rdn (by omega) hk_9
    have hk_12 : S_10 (10900 + a) = (0 : Int32) := by rw [hS_10]; exact va_up_self _ _ _
    refine V_aload0 eX2_readsOrder_89 rfl ?_
    refine V_iload1 eX2_readsOrder_90 ?_
    refine M_pi mb (Or.inl rfl) rfl eX2_readsOrder_91 fl_X2_78_2 ?_
    rw [ms_extF (show va_up (va_up (va_up (va_up (va_up F 4 (F 4)) 5 (F 5)) 6 (F 6)) 7 (F 7)) 4 (nI a) = (va_up (va_up (va_up (va_up F 4 (nI a)) 5 (F 5)) 6 (F 6)) 7 (F 7)) from by
        funext q
        by_cases e4 : q = 4
        · subst e4; rfl
        by_cases e5 : q = 5
        · subst e5; rfl
        by_cases e6 : q = 6
        · subst e6; rfl
        by_cases e7 : q = 7
        · subst e7; rfl
        simp only [va_up, if_neg e4, if_neg e5, if_neg e6, if_neg e7])]
    refine V_aload0 eX2_readsOrder_94 rfl ?_
    refine V_iconst (v := 0) (by decide) eX2_readsOrder_95 ?_
    refine M_pi mb (Or.inl rfl) rfl eX2_readsOrder_96 fl_X2_75_2 ?_
    rw [ms_extF (show va_up (va_up (va_up (va_up (va_up F 4 (nI a)) 5 (F 5)) 6 (F 6)) 7 (F 7)) 5 (0 : Int32) = (va_up (va_up (va_up (va_up F 4 (nI a)) 5 (0 : Int32)) 6 (F 6)) 7 (F 7)) from by
        funext q
        by_cases e4 : q = 4
        · subst e4; rfl
        by_cases e5 : q = 5
        · subst e5; rfl
        by_cases e6 : q = 6
        · subst e6; rfl
        by_cases e7 : q = 7
        · subst e7; rfl
        simp only [va_up, if_neg e4, if_neg e5, if_neg e6, if_neg e7])]
    refine V_aload0 eX2_readsOrder_99 rfl ?_
    refine V_iconst (v := 0) (by decide) eX2_readsOrder_100 ?_
    refine M_pi mb (Or.inl rfl) rfl eX2_readsOrder_101 fl_X2_116_2 ?_
    rw [ms_extF (show va_up (va_up (va_up (va_up (va_up F 4 (nI a)) 5 (0 : Int32)) 6 (F 6)) 7 (F 7)) 7 (0 : Int32) = (va_up (va_up (va_up (va_up F 4 (nI a)) 5 (0 : Int32)) 6 (F 6)) 7 (0 : Int32)) from by
        funext q
        by_cases e4 : q = 4
        · subst e4; rfl
        by_cases e5 : q = 5
        · subst e5; rfl
        by_cases e6 : q = 6
        · subst e6; rfl
        by_cases e7 : q = 7
        · subst e7; rfl
        simp only [va_up, if_neg e4, if_neg e5, if_neg e6, if_neg e7])]
    refine V_aload0 eX2_readsOrder_104 rfl ?_
    refine V_iconst (v := 0) (by decide) eX2_readsOrder_105 ?_
    refine M_pz mb (Or.inl rfl) rfl (by decide) eX2_readsOrder_106 fl_X2_81_2 ?_
    rw [ms_extF (show va_up (va_up (va_up (va_up (va_up F 4 (nI a)) 5 (0 : Int32)) 6 (F 6)) 7 (0 : Int32)) 6 (0 : Int32) = (va_up (va_up (va_up (va_up F 4 (nI a)) 5 (0 : Int32)) 6 (0 : Int32)) 7 (0 : Int32)) from by
        funext q
        by_cases e4 : q = 4
        · subst e4; rfl
        by_cases e5 : q = 5
        · subst e5; rfl
        by_cases e6 : q = 6
        · subst e6; rfl
        by_cases e7 : q = 7
        · subst e7; rfl
        simp only [va_up, if_neg e4, if_neg e5, if_neg e6, if_neg e7])]
    refine V_aload0 eX2_readsOrder_109 rfl ?_
    refine V_iload1 eX2_readsOrder_110 ?_
    refine M_callU mb eX2_readsOrder_111 lmX2_reads q2001 q2003 rfl qs55 (c_reads mb (A := A) (F := (va_up (va_up (va_up (va_up F 4 (nI a)) 5 (0 : Int32)) 6 (0 : Int32)) 7 (0 : Int32))) a (sp := 0) (ln := tp) rfl ha (show _ = nI 0 from rfl) (by omega) hk_11 htp4 (show _ = 0 from rfl) (show _ = nI 0 from rfl) (lc := 0) hk_12 (by omega) sb) rfl rfl rfl rfl ?_
    rw [ms_extF (show (va_up (va_up (va_up (va_up (va_up (va_up (va_up F 4 (nI a)) 5 (0 : Int32)) 6 (0 : Int32)) 7 (0 : Int32)) 5 ((o_reads S_10 A (va_up (va_up (va_up (va_up F 4 (nI a)) 5 (0 : Int32)) 6 (0 : Int32)) 7 (0 : Int32)) a 0 tp 0).2).1) 6 ((o_reads S_10 A (va_up (va_up (va_up (va_up F 4 (nI a)) 5 (0 : Int32)) 6 (0 : Int32)) 7 (0 : Int32)) a 0 tp 0).2).2) 7 (nI 0)) = (va_up (va_up (va_up (va_up F 4 (nI a)) 5 ((o_reads S_10 A (va_up (va_up (va_up (va_up F 4 (nI a)) 5 (0 : Int32)) 6 (0 : Int32)) 7 (0 : Int32)) a 0 tp 0).2).1) 6 ((o_reads S_10 A (va_up (va_up (va_up (va_up F 4 (nI a)) 5 (0 : Int32)) 6 (0 : Int32)) 7 (0 : Int32)) a 0 tp 0).2).2) 7 (nI 0)) from by
        funext q
        by_cases e4 : q = 4
        · subst e4; rfl
        by_cases e5 : q = 5
        · subst e5; rfl
        by_cases e6 : q = 6
        · subst e6; rfl
        by_cases e7 : q = 7
        · subst e7; rfl
        simp only [va_up, if_neg e4, if_neg e5, if_neg e6, if_neg e7])]
    obtain ⟨s13, hs13, hs13a, hs13b, hs13w, hs13v⟩ := rd_ok (S := S_10) (A := A) (F := (va_up (va_up (va_up (va_up F 4 (nI a)) 5 (0 : Int32)) 6 (0 : Int32)) 7 (0 : Int32))) (a := a) (sp := 0) (ln := tp) (lc := 0) (by omega) htp4 (by omega) hk_12 ha
    have hs13c : (((o_reads S_10 A (va_up (va_up (va_up (va_up F 4 (nI a)) 5 (0 : Int32)) 6 (0 : Int32)) 7 (0 : Int32)) a 0 tp 0).2).1).toNatClampNeg = s13 := by rw [hs13]; exact nI_clamp (by omega)
    rw [hs13]
    obtain ⟨S_14, hS_14⟩ : ∃ T, T = (o_reads S_10 A (va_up (va_up (va_up (va_up F 4 (nI a)) 5 (0 : Int32)) 6 (0 : Int32)) 7 (0 : Int32)) a 0 tp 0).1 := ⟨_, rfl⟩
    rw [← hS_14]
    have hI0 : roI S_10 a tp (S_14, (nI s13), ((o_reads S_10 A (va_up (va_up (va_up (va_up F 4 (nI a)) 5 (0 : Int32)) 6 (0 : Int32)) 7 (0 : Int32)) a 0 tp 0).2).2) := by
      obtain ⟨c, g1, g2, g3, g4⟩ := hs13v
      refine ⟨s13, rfl, by omega, hs13w, c, by rw [hS_14]; exact g1, by omega, ?_⟩
      rw [hS_14]; exact g4
    have hn1 : S_10 (9630 + a) = nI tp := hk_11
    refine V.le (zle_c (zle_c (zle_n (zle_n zle_0)))) (zwl (P := fun n114 => ∀ q114 : (Nat → Int32) × Int32 × Int32, zwh (K_readsOrder_114 A F a tp) zBIG (S_14, (nI s13), ((o_reads S_10 A (va_up (va_up (va_up (va_up F 4 (nI a)) 5 (0 : Int32)) 6 (0 : Int32)) 7 (0 : Int32)) a 0 tp 0).2).2) = zwh (K_readsOrder_114 A F a tp) n114 q114 → (roI S_10 a tp q114) → (roM a q114 ≤ n114) → V w mX2_readsOrder cX2_readsOrder 24 0 0 (ms h A B (va_up (va_up (va_up (va_up F 4 (nI a)) 5 q114.2.1) 6 q114.2.2) 7 (nI 0)) q114.1) 114 [some (.ref m), some (.int (nI a)), none, none] [] _) (fun n114 ih114 q114 hR114 hI hM => ?_) zBIG (S_14, (nI s13), ((o_reads S_10 A (va_up (va_up (va_up (va_up F 4 (nI a)) 5 (0 : Int32)) 6 (0 : Int32)) 7 (0 : Int32)) a 0 tp 0).2).2) rfl hI0 (roM_0 _ _))
    obtain ⟨u, hu1, hu2, hu3, lc, hqc, hlc8, hfr⟩ := id hI
    have huc : q114.2.1.toNatClampNeg = u := by rw [hu1]; exact nI_clamp (by omega)
    have hlcc : sn q114.1 (10900 + a) = lc := sn_of hqc (by omega)
    have hqn : q114.1 (9630 + a) = nI tp := (hfr _ (by omega) (by omega) (by omega) (by omega)).trans hn1
    rw [hu1]
    refine V_aload0 eX2_readsOrder_114 rfl ?_
    refine M_gi mb (Or.inr rfl) (show _ = q114.2.2 from rfl) eX2_readsOrder_115 fl_X2_81_2 ?_
    refine V_ifne eX2_readsOrder_118 (fun c118 => ?_) (fun c118 => ?_)
    · have hK114 : K_readsOrder_114 A F a tp q114 = none := by simp only [K_readsOrder_114, hs13c, huc, hlcc, if_neg c118]
      have hq114 : q114 = zwh (K_readsOrder_114 A F a tp) zBIG (S_14, (nI s13), ((o_reads S_10 A (va_up (va_up (va_up (va_up F 4 (nI a)) 5 (0 : Int32)) 6 (0 : Int32)) 7 (0 : Int32)) a 0 tp 0).2).2) := (hR114.trans (zwh_n hK114)).symm
      refine V_aload0 eX2_readsOrder_163 rfl ?_
      refine V_aload0 eX2_readsOrder_164 rfl ?_
      refine M_gi mb (Or.inr rfl) (show _ = q114.2.2 from rfl) eX2_readsOrder_165 fl_X2_81_2 ?_
      refine V_ifne eX2_readsOrder_168 (fun c168 => ?_) (fun c168 => ?_)
      · refine V_iconst (v := 1) (by decide) eX2_readsOrder_188 ?_
        refine V_goto eX2_readsOrder_189 ?_
        refine M_pz mb (Or.inl rfl) rfl (by decide) eX2_readsOrder_193 fl_X2_81_2 ?_
        rw [ms_extF (show va_up (va_up (va_up (va_up (va_up F 4 (nI a)) 5 (nI u)) 6 q114.2.2) 7 (nI 0)) 6 (1 : Int32) = (va_up (va_up (va_up (va_up F 4 (nI a)) 5 (nI u)) 6 (1 : Int32)) 7 (nI 0)) from by
            funext q
            by_cases e4 : q = 4
            · subst e4; rfl
            by_cases e5 : q = 5
            · subst e5; rfl
            by_cases e6 : q = 6
            · subst e6; rfl
            by_cases e7 : q = 7
            · subst e7; rfl
            simp only [va_up, if_neg e4, if_neg e5, if_neg e6, if_neg e7])]
        refine V_aload0 eX2_readsOrder_196 rfl ?_
        refine M_gi mb (Or.inr rfl) (show _ = (1 : Int32) from rfl) eX2_readsOrder_197 fl_X2_81_2 ?_
        refine V_ifne eX2_readsOrder_200 (fun c200 => ?_) (fun c200 => absurd c200 (by decide))
        refine V_iconst (v := 0) (by decide) eX2_readsOrder_207 ?_
        have hE : ((0 : Int32), q114.1, (nI a), (nI u), (1 : Int32), (nI 0)) = o_readsOrder S A F a tp day := by simp only [o_readsOrder, ← hS_1, ← hS_3, ← hq29, ← hS_8, ← hS_10, ← hS_14, ← hq114, hs13c, huc, hlcc, if_neg c168]
        exact V_zreturn eX2_readsOrder_208 rfl (by decide) (by rw [← hE]; exact ⟨rfl, rfl⟩)
      · refine V_aload0 eX2_readsOrder_171 rfl ?_
        refine M_gi mb (Or.inl rfl) (show _ = (nI u) from rfl) eX2_readsOrder_172 fl_X2_75_2 ?_
        refine V_aload0 eX2_readsOrder_175 rfl ?_
        refine M_ga mb rfl eX2_readsOrder_176 fl_X2_8_2 ?_
        refine V_sipush (v := 9630) (by decide) eX2_readsOrder_179 ?_
        refine V_iload1 eX2_readsOrder_182 ?_
        refine V_iadd eX2_readsOrder_183 ?_
        refine M_sl (n := (9630 + a)) mb (zadd rfl rfl) (by omega) hqn eX2_readsOrder_184 ?_
        refine V_if_icmpeq eX2_readsOrder_185 (fun c185 => ?_) (fun c185 => ?_)
        · refine V_iconst (v := 0) (by decide) eX2_readsOrder_192 ?_
          refine M_pz mb (Or.inl rfl) rfl (by decide) eX2_readsOrder_193 fl_X2_81_2 ?_
          rw [ms_extF (show va_up (va_up (va_up (va_up (va_up F 4 (nI a)) 5 (nI u)) 6 q114.2.2) 7 (nI 0)) 6 (0 : Int32) = (va_up (va_up (va_up (va_up F 4 (nI a)) 5 (nI u)) 6 (0 : Int32)) 7 (nI 0)) from by
              funext q
              by_cases e4 : q = 4
              · subst e4; rfl
              by_cases e5 : q = 5
              · subst e5; rfl
              by_cases e6 : q = 6
              · subst e6; rfl
              by_cases e7 : q = 7
              · subst e7; rfl
              simp only [va_up, if_neg e4, if_neg e5, if_neg e6, if_neg e7])]
          refine V_aload0 eX2_readsOrder_196 rfl ?_
          refine M_gi mb (Or.inr rfl) (show _ = (0 : Int32) from rfl) eX2_readsOrder_197 fl_X2_81_2 ?_
          refine V_ifne eX2_readsOrder_200 (fun c200 => absurd c200 (by decide)) (fun c200 => ?_)
          refine V_iconst (v := 1) (by decide) eX2_readsOrder_203 ?_
          refine V_goto eX2_readsOrder_204 ?_
          have hE : ((1 : Int32), q114.1, (nI a), (nI u), (0 : Int32), (nI 0)) = o_readsOrder S A F a tp day := by simp only [o_readsOrder, ← hS_1, ← hS_3, ← hq29, ← hS_8, ← hS_10, ← hS_14, ← hq114, hs13c, huc, hlcc, if_pos c168, if_pos c185]
          exact V_zreturn eX2_readsOrder_208 rfl (by decide) (by rw [← hE]; exact ⟨rfl, rfl⟩)
        · refine V_iconst (v := 1) (by decide) eX2_readsOrder_188 ?_
          refine V_goto eX2_readsOrder_189 ?_
          refine M_pz mb (Or.inl rfl) rfl (by decide) eX2_readsOrder_193 fl_X2_81_2 ?_
          rw [ms_extF (show va_up (va_up (va_up (va_up (va_up F 4 (nI a)) 5 (nI u)) 6 q114.2.2) 7 (nI 0)) 6 (1 : Int32) = (va_up (va_up (va_up (va_up F 4 (nI a)) 5 (nI u)) 6 (1 : Int32)) 7 (nI 0)) from by
              funext q
              by_cases e4 : q = 4
              · subst e4; rfl
              by_cases e5 : q = 5
              · subst e5; rfl
              by_cases e6 : q = 6
              · subst e6; rfl
              by_cases e7 : q = 7
              · subst e7; rfl
              simp only [va_up, if_neg e4, if_neg e5, if_neg e6, if_neg e7])]
          refine V_aload0 eX2_readsOrder_196 rfl ?_
          refine M_gi mb (Or.inr rfl) (show _ = (1 : Int32) from rfl) eX2_readsOrder_197 fl_X2_81_2 ?_
          refine V_ifne eX2_readsOrder_200 (fun c200 => ?_) (fun c200 => absurd c200 (by decide))
          refine V_iconst (v := 0) (by decide) eX2_readsOrder_207 ?_
          have hE : ((0 : Int32), q114.1, (nI a), (nI u), (1 : Int32), (nI 0)) = o_readsOrder S A F a tp day := by simp only [o_readsOrder, ← hS_1, ← hS_3, ← hq29, ← hS_8, ← hS_10, ← hS_14, ← hq114, hs13c, huc, hlcc, if_pos c168, if_neg c185]
          exact V_zreturn eX2_readsOrder_208 rfl (by decide) (by rw [← hE]; exact ⟨rfl, rfl⟩)
    · refine V_aload0 eX2_readsOrder_121 rfl ?_
      refine M_ga mb rfl eX2_readsOrder_122 fl_X2_8_2 ?_
      refine V_sipush (v := 10900) (by decide) eX2_readsOrder_125 ?_
      refine V_iload1 eX2_readsOrder_128 ?_
      refine V_iadd eX2_readsOrder_129 ?_
      refine M_sl (n := (10900 + a)) mb (zadd rfl rfl) (by omega) hqc eX2_readsOrder_130 ?_
      refine V_bipush (v := 8) (by decide) eX2_readsOrder_131 ?_
      refine V_if_icmpge eX2_readsOrder_133 (fun c133 => ?_) (fun c133 => ?_)
      · have hK114 : K_readsOrder_114 A F a tp q114 = none := by simp only [K_readsOrder_114, hs13c, huc, hlcc, if_pos c118, if_pos c133]
        have hq114 : q114 = zwh (K_readsOrder_114 A F a tp) zBIG (S_14, (nI s13), ((o_reads S_10 A (va_up (va_up (va_up (va_up F 4 (nI a)) 5 (0 : Int32)) 6 (0 : Int32)) 7 (0 : Int32)) a 0 tp 0).2).2) := (hR114.trans (zwh_n hK114)).symm
        refine V_aload0 eX2_readsOrder_163 rfl ?_
        refine V_aload0 eX2_readsOrder_164 rfl ?_
        refine M_gi mb (Or.inr rfl) (show _ = q114.2.2 from rfl) eX2_readsOrder_165 fl_X2_81_2 ?_
        refine V_ifne eX2_readsOrder_168 (fun c168 => ?_) (fun c168 => ?_)
        · refine V_iconst (v := 1) (by decide) eX2_readsOrder_188 ?_
          refine V_goto eX2_readsOrder_189 ?_
          refine M_pz mb (Or.inl rfl) rfl (by decide) eX2_readsOrder_193 fl_X2_81_2 ?_
          rw [ms_extF (show va_up (va_up (va_up (va_up (va_up F 4 (nI a)) 5 (nI u)) 6 q114.2.2) 7 (nI 0)) 6 (1 : Int32) = (va_up (va_up (va_up (va_up F 4 (nI a)) 5 (nI u)) 6 (1 : Int32)) 7 (nI 0)) from by
              funext q
              by_cases e4 : q = 4
              · subst e4; rfl
              by_cases e5 : q = 5
              · subst e5; rfl
              by_cases e6 : q = 6
              · subst e6; rfl
              by_cases e7 : q = 7
              · subst e7; rfl
              simp only [va_up, if_neg e4, if_neg e5, if_neg e6, if_neg e7])]
          refine V_aload0 eX2_readsOrder_196 rfl ?_
          refine M_gi mb (Or.inr rfl) (show _ = (1 : Int32) from rfl) eX2_readsOrder_197 fl_X2_81_2 ?_
          refine V_ifne eX2_readsOrder_200 (fun c200 => ?_) (fun c200 => absurd c200 (by decide))
          refine V_iconst (v := 0) (by decide) eX2_readsOrder_207 ?_
          have hE : ((0 : Int32), q114.1, (nI a), (nI u), (1 : Int32), (nI 0)) = o_readsOrder S A F a tp day := by simp only [o_readsOrder, ← hS_1, ← hS_3, ← hq29, ← hS_8, ← hS_10, ← hS_14, ← hq114, hs13c, huc, hlcc, if_neg c168]
          exact V_zreturn eX2_readsOrder_208 rfl (by decide) (by rw [← hE]; exact ⟨rfl, rfl⟩)
        · refine V_aload0 eX2_readsOrder_171 rfl ?_
          refine M_gi mb (Or.inl rfl) (show _ = (nI u) from rfl) eX2_readsOrder_172 fl_X2_75_2 ?_
          refine V_aload0 eX2_readsOrder_175 rfl ?_
          refine M_ga mb rfl eX2_readsOrder_176 fl_X2_8_2 ?_
          refine V_sipush (v := 9630) (by decide) eX2_readsOrder_179 ?_
          refine V_iload1 eX2_readsOrder_182 ?_
          refine V_iadd eX2_readsOrder_183 ?_
          refine M_sl (n := (9630 + a)) mb (zadd rfl rfl) (by omega) hqn eX2_readsOrder_184 ?_
          refine V_if_icmpeq eX2_readsOrder_185 (fun c185 => ?_) (fun c185 => ?_)
          · refine V_iconst (v := 0) (by decide) eX2_readsOrder_192 ?_
            refine M_pz mb (Or.inl rfl) rfl (by decide) eX2_readsOrder_193 fl_X2_81_2 ?_
            rw [ms_extF (show va_up (va_up (va_up (va_up (va_up F 4 (nI a)) 5 (nI u)) 6 q114.2.2) 7 (nI 0)) 6 (0 : Int32) = (va_up (va_up (va_up (va_up F 4 (nI a)) 5 (nI u)) 6 (0 : Int32)) 7 (nI 0)) from by
                funext q
                by_cases e4 : q = 4
                · subst e4; rfl
                by_cases e5 : q = 5
                · subst e5; rfl
                by_cases e6 : q = 6
                · subst e6; rfl
                by_cases e7 : q = 7
                · subst e7; rfl
                simp only [va_up, if_neg e4, if_neg e5, if_neg e6, if_neg e7])]
            refine V_aload0 eX2_readsOrder_196 rfl ?_
            refine M_gi mb (Or.inr rfl) (show _ = (0 : Int32) from rfl) eX2_readsOrder_197 fl_X2_81_2 ?_
            refine V_ifne eX2_readsOrder_200 (fun c200 => absurd c200 (by decide)) (fun c200 => ?_)
            refine V_iconst (v := 1) (by decide) eX2_readsOrder_203 ?_
            refine V_goto eX2_readsOrder_204 ?_
            have hE : ((1 : Int32), q114.1, (nI a), (nI u), (0 : Int32), (nI 0)) = o_readsOrder S A F a tp day := by simp only [o_readsOrder, ← hS_1, ← hS_3, ← hq29, ← hS_8, ← hS_10, ← hS_14, ← hq114, hs13c, huc, hlcc, if_pos c168, if_pos c185]
            exact V_zreturn eX2_readsOrder_208 rfl (by decide) (by rw [← hE]; exact ⟨rfl, rfl⟩)
          · refine V_iconst (v := 1) (by decide) eX2_readsOrder_188 ?_
            refine V_goto eX2_readsOrder_189 ?_
            refine M_pz mb (Or.inl rfl) rfl (by decide) eX2_readsOrder_193 fl_X2_81_2 ?_
            rw [ms_extF (show va_up (va_up (va_up (va_up (va_up F 4 (nI a)) 5 (nI u)) 6 q114.2.2) 7 (nI 0)) 6 (1 : Int32) = (va_up (va_up (va_up (va_up F 4 (nI a)) 5 (nI u)) 6 (1 : Int32)) 7 (nI 0)) from by
                funext q
                by_cases e4 : q = 4
                · subst e4; rfl
                by_cases e5 : q = 5
                · subst e5; rfl
                by_cases e6 : q = 6
                · subst e6; rfl
                by_cases e7 : q = 7
                · subst e7; rfl
                simp only [va_up, if_neg e4, if_neg e5, if_neg e6, if_neg e7])]
            refine V_aload0 eX2_readsOrder_196 rfl ?_
            refine M_gi mb (Or.inr rfl) (show _ = (1 : Int32) from rfl) eX2_readsOrder_197 fl_X2_81_2 ?_
            refine V_ifne eX2_readsOrder_200 (fun c200 => ?_) (fun c200 => absurd c200 (by decide))
            refine V_iconst (v := 0) (by decide) eX2_readsOrder_207 ?_
            have hE : ((0 : Int32), q114.1, (nI a), (nI u), (1 : Int32), (nI 0)) = o_readsOrder S A F a tp day := by simp only [o_readsOrder, ← hS_1, ← hS_3, ← hq29, ← hS_8, ← hS_10, ← hS_14, ← hq114, hs13c, huc, hlcc, if_pos c168, if_neg c185]
            exact V_zreturn eX2_readsOrder_208 rfl (by decide) (by rw [← hE]; exact ⟨rfl, rfl⟩)
      · have hlc7 : lc < 8 := nnle (a := 8) c133 (by omega) (by omega)
        refine V_aload0 eX2_readsOrder_136 rfl ?_
        refine M_call mb eX2_readsOrder_137 lmX2_here q2063 q2065 rfl qs57 (c_here mb (F := (va_up (va_up (va_up (va_up F 4 (nI a)) 5 (nI u)) 6 q114.2.2) 7 (nI 0))) (a := a) (sp := u) (ln := tp) rfl ha (show _ = nI u from rfl) (by omega) hqn htp4) rfl rfl rfl rfl ?_
        refine V_bipush (v := 59) (by decide) eX2_readsOrder_140 ?_
        refine V_if_icmpne eX2_readsOrder_142 (fun c142 => ?_) (fun c142 => ?_)
        · have hK114 : K_readsOrder_114 A F a tp q114 = none := by simp only [K_readsOrder_114, hs13c, huc, hlcc, if_pos c118, if_neg c133, if_neg c142]
          have hq114 : q114 = zwh (K_readsOrder_114 A F a tp) zBIG (S_14, (nI s13), ((o_reads S_10 A (va_up (va_up (va_up (va_up F 4 (nI a)) 5 (0 : Int32)) 6 (0 : Int32)) 7 (0 : Int32)) a 0 tp 0).2).2) := (hR114.trans (zwh_n hK114)).symm
          refine V_aload0 eX2_readsOrder_163 rfl ?_
          refine V_aload0 eX2_readsOrder_164 rfl ?_
          refine M_gi mb (Or.inr rfl) (show _ = q114.2.2 from rfl) eX2_readsOrder_165 fl_X2_81_2 ?_
          refine V_ifne eX2_readsOrder_168 (fun c168 => ?_) (fun c168 => ?_)
          · refine V_iconst (v := 1) (by decide) eX2_readsOrder_188 ?_
            refine V_goto eX2_readsOrder_189 ?_
            refine M_pz mb (Or.inl rfl) rfl (by decide) eX2_readsOrder_193 fl_X2_81_2 ?_
            rw [ms_extF (show va_up (va_up (va_up (va_up (va_up F 4 (nI a)) 5 (nI u)) 6 q114.2.2) 7 (nI 0)) 6 (1 : Int32) = (va_up (va_up (va_up (va_up F 4 (nI a)) 5 (nI u)) 6 (1 : Int32)) 7 (nI 0)) from by
                funext q
                by_cases e4 : q = 4
                · subst e4; rfl
                by_cases e5 : q = 5
                · subst e5; rfl
                by_cases e6 : q = 6
                · subst e6; rfl
                by_cases e7 : q = 7
                · subst e7; rfl
                simp only [va_up, if_neg e4, if_neg e5, if_neg e6, if_neg e7])]
            refine V_aload0 eX2_readsOrder_196 rfl ?_
            refine M_gi mb (Or.inr rfl) (show _ = (1 : Int32) from rfl) eX2_readsOrder_197 fl_X2_81_2 ?_
            refine V_ifne eX2_readsOrder_200 (fun c200 => ?_) (fun c200 => absurd c200 (by decide))
            refine V_iconst (v := 0) (by decide) eX2_readsOrder_207 ?_
            have hE : ((0 : Int32), q114.1, (nI a), (nI u), (1 : Int32), (nI 0)) = o_readsOrder S A F a tp day := by simp only [o_readsOrder, ← hS_1, ← hS_3, ← hq29, ← hS_8, ← hS_10, ← hS_14, ← hq114, hs13c, huc, hlcc, if_neg c168]
            exact V_zreturn eX2_readsOrder_208 rfl (by decide) (by rw [← hE]; exact ⟨rfl, rfl⟩)
          · refine V_aload0 eX2_readsOrder_171 rfl ?_
            refine M_gi mb (Or.inl rfl) (show _ = (nI u) from rfl) eX2_readsOrder_172 fl_X2_75_2 ?_
            refine V_aload0 eX2_readsOrder_175 rfl ?_
            refine M_ga mb rfl eX2_readsOrder_176 fl_X2_8_2 ?_
            refine V_sipush (v := 9630) (by decide) eX2_readsOrder_179 ?_
            refine V_iload1 eX2_readsOrder_182 ?_
            refine V_iadd eX2_readsOrder_183 ?_
            refine M_sl (n := (9630 + a)) mb (zadd rfl rfl) (by omega) hqn eX2_readsOrder_184 ?_
            refine V_if_icmpeq eX2_readsOrder_185 (fun c185 => ?_) (fun c185 => ?_)
            · refine V_iconst (v := 0) (by decide) eX2_readsOrder_192 ?_
              refine M_pz mb (Or.inl rfl) rfl (by decide) eX2_readsOrder_193 fl_X2_81_2 ?_
              rw [ms_extF (show va_up (va_up (va_up (va_up (va_up F 4 (nI a)) 5 (nI u)) 6 q114.2.2) 7 (nI 0)) 6 (0 : Int32) = (va_up (va_up (va_up (va_up F 4 (nI a)) 5 (nI u)) 6 (0 : Int32)) 7 (nI 0)) from by
                  funext q
                  by_cases e4 : q = 4
                  · subst e4; rfl
                  by_cases e5 : q = 5
                  · subst e5; rfl
                  by_cases e6 : q = 6
                  · subst e6; rfl
                  by_cases e7 : q = 7
                  · subst e7; rfl
                  simp only [va_up, if_neg e4, if_neg e5, if_neg e6, if_neg e7])]
              refine V_aload0 eX2_readsOrder_196 rfl ?_
              refine M_gi mb (Or.inr rfl) (show _ = (0 : Int32) from rfl) eX2_readsOrder_197 fl_X2_81_2 ?_
              refine V_ifne eX2_readsOrder_200 (fun c200 => absurd c200 (by decide)) (fun c200 => ?_)
              refine V_iconst (v := 1) (by decide) eX2_readsOrder_203 ?_
              refine V_goto eX2_readsOrder_204 ?_
              have hE : ((1 : Int32), q114.1, (nI a), (nI u), (0 : Int32), (nI 0)) = o_readsOrder S A F a tp day := by simp only [o_readsOrder, ← hS_1, ← hS_3, ← hq29, ← hS_8, ← hS_10, ← hS_14, ← hq114, hs13c, huc, hlcc, if_pos c168, if_pos c185]
              exact V_zreturn eX2_readsOrder_208 rfl (by decide) (by rw [← hE]; exact ⟨rfl, rfl⟩)
            · refine V_iconst (v := 1) (by decide) eX2_readsOrder_188 ?_
              refine V_goto eX2_readsOrder_189 ?_
              refine M_pz mb (Or.inl rfl) rfl (by decide) eX2_readsOrder_193 fl_X2_81_2 ?_
              rw [ms_extF (show va_up (va_up (va_up (va_up (va_up F 4 (nI a)) 5 (nI u)) 6 q114.2.2) 7 (nI 0)) 6 (1 : Int32) = (va_up (va_up (va_up (va_up F 4 (nI a)) 5 (nI u)) 6 (1 : Int32)) 7 (nI 0)) from by
                  funext q
                  by_cases e4 : q = 4
                  · subst e4; rfl
                  by_cases e5 : q = 5
                  · subst e5; rfl
                  by_cases e6 : q = 6
                  · subst e6; rfl
                  by_cases e7 : q = 7
                  · subst e7; rfl
                  simp only [va_up, if_neg e4, if_neg e5, if_neg e6, if_neg e7])]
              refine V_aload0 eX2_readsOrder_196 rfl ?_
              refine M_gi mb (Or.inr rfl) (show _ = (1 : Int32) from rfl) eX2_readsOrder_197 fl_X2_81_2 ?_
              refine V_ifne eX2_readsOrder_200 (fun c200 => ?_) (fun c200 => absurd c200 (by decide))
              refine V_iconst (v := 0) (by decide) eX2_readsOrder_207 ?_
              have hE : ((0 : Int32), q114.1, (nI a), (nI u), (1 : Int32), (nI 0)) = o_readsOrder S A F a tp day := by simp only [o_readsOrder, ← hS_1, ← hS_3, ← hq29, ← hS_8, ← hS_10, ← hS_14, ← hq114, hs13c, huc, hlcc, if_pos c168, if_neg c185]
              exact V_zreturn eX2_readsOrder_208 rfl (by decide) (by rw [← hE]; exact ⟨rfl, rfl⟩)
        · have hul := here_lt (a := a) (sp := u) (ln := tp) (S := q114.1) (by rw [c142]; decide) (by omega) htp4
          refine V_aload0 eX2_readsOrder_145 rfl ?_
          refine V_dup rfl eX2_readsOrder_146 ?_
          refine M_gi mb (Or.inl rfl) (show _ = (nI u) from rfl) eX2_readsOrder_147 fl_X2_75_2 ?_
          refine V_iconst (v := 1) (by decide) eX2_readsOrder_150 ?_
          refine V_iadd eX2_readsOrder_151 ?_
          refine M_pi mb (Or.inl rfl) rfl eX2_readsOrder_152 fl_X2_75_2 ?_
          rw [show ((nI u) + (1 : Int32)) = nI (u + 1) from (zadd rfl rfl)]
          rw [ms_extF (show va_up (va_up (va_up (va_up (va_up F 4 (nI a)) 5 (nI u)) 6 q114.2.2) 7 (nI 0)) 5 (nI (u + 1)) = (va_up (va_up (va_up (va_up F 4 (nI a)) 5 (nI (u + 1))) 6 q114.2.2) 7 (nI 0)) from by
              funext q
              by_cases e4 : q = 4
              · subst e4; rfl
              by_cases e5 : q = 5
              · subst e5; rfl
              by_cases e6 : q = 6
              · subst e6; rfl
              by_cases e7 : q = 7
              · subst e7; rfl
              simp only [va_up, if_neg e4, if_neg e5, if_neg e6, if_neg e7])]
          refine V_aload0 eX2_readsOrder_155 rfl ?_
          refine V_iload1 eX2_readsOrder_156 ?_
          refine M_callU mb eX2_readsOrder_157 lmX2_reads q2001 q2003 rfl qs55 (c_reads mb (A := A) (F := (va_up (va_up (va_up (va_up F 4 (nI a)) 5 (nI (u + 1))) 6 q114.2.2) 7 (nI 0))) a (sp := (u + 1)) (ln := tp) rfl ha (show _ = nI (u + 1) from rfl) (by omega) hqn htp4 (show _ = 0 from c118) (show _ = nI 0 from rfl) (lc := lc) hqc (by omega) sb) rfl rfl rfl rfl ?_
          rw [ms_extF (show (va_up (va_up (va_up (va_up (va_up (va_up (va_up F 4 (nI a)) 5 (nI (u + 1))) 6 q114.2.2) 7 (nI 0)) 5 ((o_reads q114.1 A (va_up (va_up (va_up (va_up F 4 (nI a)) 5 (nI (u + 1))) 6 q114.2.2) 7 (nI 0)) a (u + 1) tp lc).2).1) 6 ((o_reads q114.1 A (va_up (va_up (va_up (va_up F 4 (nI a)) 5 (nI (u + 1))) 6 q114.2.2) 7 (nI 0)) a (u + 1) tp lc).2).2) 7 (nI 0)) = (va_up (va_up (va_up (va_up F 4 (nI a)) 5 ((o_reads q114.1 A (va_up (va_up (va_up (va_up F 4 (nI a)) 5 (nI (u + 1))) 6 q114.2.2) 7 (nI 0)) a (u + 1) tp lc).2).1) 6 ((o_reads q114.1 A (va_up (va_up (va_up (va_up F 4 (nI a)) 5 (nI (u + 1))) 6 q114.2.2) 7 (nI 0)) a (u + 1) tp lc).2).2) 7 (nI 0)) from by
              funext q
              by_cases e4 : q = 4
              · subst e4; rfl
              by_cases e5 : q = 5
              · subst e5; rfl
              by_cases e6 : q = 6
              · subst e6; rfl
              by_cases e7 : q = 7
              · subst e7; rfl
              simp only [va_up, if_neg e4, if_neg e5, if_neg e6, if_neg e7])]
          obtain ⟨s15, hs15, hs15a, hs15b, hs15w, hs15v⟩ := rd_ok (S := q114.1) (A := A) (F := (va_up (va_up (va_up (va_up F 4 (nI a)) 5 (nI (u + 1))) 6 q114.2.2) 7 (nI 0))) (a := a) (sp := (u + 1)) (ln := tp) (lc := lc) (by omega) htp4 (by omega) hqc ha
          have hs15c : (((o_reads q114.1 A (va_up (va_up (va_up (va_up F 4 (nI a)) 5 (nI (u + 1))) 6 q114.2.2) 7 (nI 0)) a (u + 1) tp lc).2).1).toNatClampNeg = s15 := by rw [hs15]; exact nI_clamp (by omega)
          rw [hs15]
          obtain ⟨S_16, hS_16⟩ : ∃ T, T = (o_reads q114.1 A (va_up (va_up (va_up (va_up F 4 (nI a)) 5 (nI (u + 1))) 6 q114.2.2) 7 (nI 0)) a (u + 1) tp lc).1 := ⟨_, rfl⟩
          rw [← hS_16]
          refine V_goto eX2_readsOrder_160 ?_
          have hK114 : K_readsOrder_114 A F a tp q114 = some (S_16, (nI s15), ((o_reads q114.1 A (va_up (va_up (va_up (va_up F 4 (nI a)) 5 (nI (u + 1))) 6 q114.2.2) 7 (nI 0)) a (u + 1) tp lc).2).2) := by simp only [K_readsOrder_114, ← hS_16, hs13c, huc, hlcc, hs15c, if_pos c118, if_neg c133, if_pos c142]
          obtain ⟨n114, rfl⟩ : ∃ k, n114 = k + 1 := ⟨n114 - 1, by have := (ro_K htp4 ha hI hK114).2; omega⟩
          exact V.le (zle_c (zle_c (zle_n (zle_n zle_0)))) (ih114 n114 rfl (S_16, (nI s15), ((o_reads q114.1 A (va_up (va_up (va_up (va_up F 4 (nI a)) 5 (nI (u + 1))) 6 q114.2.2) 7 (nI 0)) a (u + 1) tp lc).2).2) (hR114.trans (zwh_s hK114))  (ro_K htp4 ha hI hK114).1 (by have := (ro_K htp4 ha hI hK114).2; omega))
  · have hl29 : k < tp := by have := nnle c36 (by omega) (by omega); omega
    refine V_aload0 eX2_readsOrder_39 rfl ?_
    refine M_ga mb rfl eX2_readsOrder_40 fl_X2_8_2 ?_
    refine V_sipush (v := 9640) (by decide) eX2_readsOrder_43 ?_
    refine V_sipush (v := 140) (by decide) eX2_readsOrder_46 ?_
    refine V_iload1 eX2_readsOrder_49 ?_
    refine V_imul eX2_readsOrder_50 ?_
    refine V_iadd eX2_readsOrder_51 ?_
    refine V_iload3 eX2_readsOrder_52 ?_
    refine V_iadd eX2_readsOrder_53 ?_
    refine V_aload0 eX2_readsOrder_54 rfl ?_
    refine M_ga mb rfl eX2_readsOrder_55 fl_X2_8_2 ?_
    refine V_sipush (v := 11150) (by decide) eX2_readsOrder_58 ?_
    refine V_iload3 eX2_readsOrder_61 ?_
    refine V_iadd eX2_readsOrder_62 ?_
    refine M_sl (n := (11150 + k)) mb (zadd rfl rfl) (by omega) rfl eX2_readsOrder_63 ?_
    refine M_ss (n := ((9640 + (140 * a)) + k)) mb (zadd (zadd rfl (zmul rfl rfl)) rfl) (by omega) eX2_readsOrder_64 ?_
    obtain ⟨S_17, hS_17⟩ : ∃ T, T = va_up q29 ((9640 + (140 * a)) + k) (q29 (11150 + k)) := ⟨_, rfl⟩
    rw [← hS_17]
    have htp_18 : S_17 4 = (nI tp) := by rw [hS_17]; exact rdn (by omega) htp_6
    have hk_19 : S_17 (9630 + a) = (nI tp) := by rw [hS_17]; exact rdn (by omega) hk_7
    refine V_iincN3 rfl eX2_readsOrder_65 rfl ?_
    refine V_goto eX2_readsOrder_68 ?_
    exact V.le (zle_c (zle_c (zle_n (zle_c zle_0)))) (ih29 hl29 S_17 (by rw [zfold_s (n := k), ← hq29]; simp only [K_readsOrder_29, ← hS_17]) htp_18 hk_19 )

