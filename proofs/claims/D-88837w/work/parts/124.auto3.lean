/-! frames of folds -/
theorem zfold_fr {α β : Type} {f : Nat → α → α} {g : α → β} {n : Nat} {a : α} (h : ∀ i, i < n → ∀ q, g (f i q) = g q) : g (zfold f n a) = g a := by
  induction n with
  | zero => rfl
  | succ n ih => rw [zfold_s, h n (by omega)]; exact ih (fun i hi => h i (by omega))
theorem sidx_le (S : Nat → Int32) (p : Int32) : ∀ n i, sidx S p n i ≤ i + n
  | 0, i => Nat.le_refl _
  | n + 1, i => by
    unfold sidx
    split
    · omega
    · have := sidx_le S p n (i + 1); omega
theorem sI_le (S : Nat → Int32) (p : Int32) : sI S p ≤ 12 := by have := sidx_le S p 12 0; unfold sI; omega
/-- what digging leaves alone -/
def dgF (j : Nat) : Prop := (0 < j ∧ j < 970) ∨ (1090 ≤ j ∧ j < 11502) ∨ (11515 ≤ j ∧ j < 11840)
theorem K_digs_18_fr {td i : Nat} {q : Int32 × (Nat → Int32)} {j : Nat} (hi : i < 60) (hj : dgF j) : (K_digs_18 td i q).2 j = q.2 j := by
  have h12 := sI_le q.2 (nI (sn q.2 (430 + sn q.2 (430 + i))))
  unfold dgF at hj
  simp only [K_digs_18]
  repeat' split
  all_goals first | rfl | exact (va_up_ne _ _ (by omega)).trans ((va_up_ne _ _ (by omega)).trans (va_up_ne _ _ (by omega)))
theorem digs_fr {S : Nat → Int32} {np td : Nat} (hnp : np ≤ 60) {j : Nat} (hj : dgF j) (htd : td < 1000) : o_digs S np td j = S j := by
  have h0 : j ≠ 0 := by unfold dgF at hj; omega
  have h1 : ∀ q : Nat → Int32, zfold (K_digs_270 np td) 60 q j = q j := fun q => zfold_fr (g := fun T : Nat → Int32 => T j) (fun i hi q => by
    unfold dgF at hj
    simp only [K_digs_270]
    repeat' split
    all_goals (rw [va_up_ne _ _ (by omega)]))
  have h2 : ∀ q : Nat → Int32, zfold (K_digs_215 td) 12 q j = q j := fun q => zfold_fr (g := fun T : Nat → Int32 => T j) (fun i hi q => by
    unfold dgF at hj
    simp only [K_digs_215]
    repeat' split
    all_goals (rw [va_up_ne _ _ (by omega)]))
  have h3 : ∀ q : Int32 × (Nat → Int32), (zfold (K_digs_18 td) np q).2 j = q.2 j := fun q => zfold_fr (g := fun T : Int32 × (Nat → Int32) => T.2 j) (fun i hi q => K_digs_18_fr (by omega) hj)
  simp only [o_digs]
  rw [va_up_ne _ _ h0, h1, h2, h3]
def Hob (S : Nat → Int32) (np : Nat) : Prop := ∀ b, b < np → S (370 + b) = 3 → ∃ pl sc, S (430 + b) = nI pl ∧ pl < 60 ∧ S (430 + pl) = nI sc ∧ sc < 60 ∧ ∃ i, i < 12 ∧ S (11490 + i) = nI sc
theorem hob_fr {S T : Nat → Int32} {np : Nat} (hf : ∀ j, dgF j → T j = S j) (h : Hob S np) (hnp : np ≤ 60) : Hob T np := by
  intro b hb hk
  rw [hf _ (by unfold dgF; omega)] at hk
  obtain ⟨pl, sc, g1, g2, g3, g4, i, g5, g6⟩ := h b hb hk
  exact ⟨pl, sc, by rw [hf _ (by unfold dgF; omega)]; exact g1, g2, by rw [hf _ (by unfold dgF; omega)]; exact g3, g4, i, g5, by rw [hf _ (by unfold dgF; omega)]; exact g6⟩
def K_dig_29 (np : Nat) (td : Nat) : Nat → (Nat → Int32) → (Nat → Int32) := fun k q29 =>
    let t1 := o_digs q29 np (td + k)
    t1
def o_dig (S : Nat → Int32) (np : Nat) (td : Nat) (n : Int32) : Int32 × (Nat → Int32) :=
  if (zin n (1 : Int32) (50 : Int32)) = 0 then
    ((-2 : Int32), S)
  else
    let c := n.toNatClampNeg
    if ((nI td) + (nI c)) ≤ (999 : Int32) then
      let q29 := zfold (K_dig_29 np td) c S
      ((q29 0), q29)
    else
      ((-2 : Int32), S)
theorem dig_fr {S : Nat → Int32} {np td k : Nat} (hnp : np ≤ 60) (htd : td + k < 1001) {j : Nat} (hj : dgF j) : zfold (K_dig_29 np td) k S j = S j :=
  zfold_fr (g := fun T : Nat → Int32 => T j) (fun i hi q => by
    simp only [K_dig_29]
    exact digs_fr hnp hj (by omega))
theorem digs_0 {S : Nat → Int32} {np td : Nat} (h : S 0 = nI td) : o_digs S np td 0 = nI (td + 1) := by
  simp only [o_digs]
  rw [va_up_self]
  exact nI_1 _
theorem dig_0 {S : Nat → Int32} {np td : Nat} (h : S 0 = nI td) : ∀ {k}, zfold (K_dig_29 np td) k S 0 = nI (td + k)
  | 0 => h
  | k + 1 => by
    rw [zfold_s]
    simp only [K_dig_29]
    exact digs_0 (dig_0 h)
theorem c_dig {w : Wd} {h : Hp} {m : Nat} {ad : Nat → Nat} {A : Nat → Nat → Int32} {B : Nat → Nat → Int64} {F S : Nat → Int32} (mb : MB h m ad) (n : Int32) {np : Nat} (hnp : S 2 = nI np) (hnp60 : np ≤ 60) {td : Nat} (htd : S 0 = nI td) (htd9 : td ≤ 999) (hob : Hob S np) : Con w mX2_dig cX2_dig 3 0 0 [.ref m, .int n] (ms h A B F S) (Rv (.int (o_dig S np td n).1) (ms h A B F (o_dig S np td n).2)) := by
  refine Con.of (by decide +kernel) rfl rfl ?_
  show V w mX2_dig cX2_dig 3 0 0 _ 0 [some (.ref m), some (.int n), none] [] _
  refine V_iload1 eX2_dig_0 ?_
  refine V_iconst (v := 1) (by decide) eX2_dig_1 ?_
  refine V_bipush (v := 50) (by decide) eX2_dig_2 ?_
  refine C0_static eX2_dig_4 lmX2_in q1966 q1967 (c_in _ _ _ _) rfl rfl rfl rfl ?_
  refine V_ifeq eX2_dig_7 (fun c7 => ?_) (fun c7 => ?_)
  · refine V_bipush (v := -2) (by decide) eX2_dig_24 ?_
    have hE : ((-2 : Int32), S) = o_dig S np td n := by simp only [o_dig, if_pos c7]
    exact V_ireturn eX2_dig_26 rfl (by rw [← hE]; exact ⟨rfl, rfl⟩)
  · obtain ⟨c, hc1, hc2, rfl⟩ := zinL (l := 1) (m := 50) c7 rfl rfl (by decide) (by decide)
    have hcc : (nI c).toNatClampNeg = c := nI_clamp (by omega)
    refine V_aload0 eX2_dig_10 rfl ?_
    refine M_ga mb rfl eX2_dig_11 fl_X2_8_2 ?_
    refine V_iconst (v := 0) (by decide) eX2_dig_14 ?_
    refine M_sl (n := 0) mb rfl (by omega) htd eX2_dig_15 ?_
    refine V_iload1 eX2_dig_16 ?_
    refine V_iadd eX2_dig_17 ?_
    refine V_sipush (v := 999) (by decide) eX2_dig_18 ?_
    refine V_if_icmple eX2_dig_21 (fun c21 => ?_) (fun c21 => ?_)
    · have h21 : td + c ≤ 999 := nle (a := td + c) (b := 999) (by rw [← nI_add]; exact c21) (by omega) (by omega)
      refine V_iconst (v := 0) (by decide) eX2_dig_27 ?_
      refine V_istore2 rfl eX2_dig_28 rfl ?_
      refine V.le (zle_c (zle_c (zle_c zle_0))) (zloop (P := fun k => ∀ q29 : (Nat → Int32), q29 = zfold (K_dig_29 np td) k S → V w mX2_dig cX2_dig 3 0 0 (ms h A B F q29) 29 [some (.ref m), some (.int (nI c)), some (.int (nI k))] [] _) c (fun k hk ih29 q29 hq29  => ?_) 0 (Nat.zero_le _) S rfl )
      refine V_iload2 eX2_dig_29 ?_
      refine V_iload1 eX2_dig_30 ?_
      refine V_if_icmpge eX2_dig_31 (fun c31 => ?_) (fun c31 => ?_)
      · have e29 : k = c := by have := nle c31 (by omega) (by omega); omega
        rw [e29] at hq29
        refine V_aload0 eX2_dig_44 rfl ?_
        refine M_ga mb rfl eX2_dig_45 fl_X2_8_2 ?_
        refine V_iconst (v := 0) (by decide) eX2_dig_48 ?_
        refine M_sl (n := 0) mb rfl (by omega) rfl eX2_dig_49 ?_
        have hE : ((q29 0), q29) = o_dig S np td (nI c) := by simp only [o_dig, ← hq29, hcc, if_neg c7, if_pos c21]
        exact V_ireturn eX2_dig_50 rfl (by rw [← hE]; exact ⟨rfl, rfl⟩)
      · have hl29 : k < c := by have := nnle c31 (by omega) (by omega); omega
        have hfr : ∀ j, dgF j → q29 j = S j := fun j hj => by rw [hq29]; exact dig_fr (by omega) (by omega) hj
        have htd2 : q29 0 = nI (td + k) := by rw [hq29]; exact dig_0 htd
        have hnp2 : q29 2 = nI np := by rw [hfr 2 (by unfold dgF; omega)]; exact hnp
        have hob2 := hob_fr (fun j hj => hfr j hj) hob hnp60
        refine V_aload0 eX2_dig_34 rfl ?_
        refine M_callU mb eX2_dig_35 lmX2_digs q2349 q2351 rfl qs94 (c_digs mb hnp2 hnp60 htd2 (by omega) hob2) rfl rfl rfl rfl ?_
        obtain ⟨S_1, hS_1⟩ : ∃ T, T = o_digs q29 np (td + k) := ⟨_, rfl⟩
        rw [← hS_1]
        refine V_iincN2 rfl eX2_dig_38 rfl ?_
        refine V_goto eX2_dig_41 ?_
        exact V.le (zle_c (zle_c (zle_c zle_0))) (ih29 hl29 S_1 (by rw [zfold_s (n := k), ← hq29]; simp only [K_dig_29, ← hS_1, hcc])  )
    · refine V_bipush (v := -2) (by decide) eX2_dig_24 ?_
      have hE : ((-2 : Int32), S) = o_dig S np td (nI c) := by simp only [o_dig, hcc, if_neg c7, if_neg c21]
      exact V_ireturn eX2_dig_26 rfl (by rw [← hE]; exact ⟨rfl, rfl⟩)

