theorem zti {x y : Int32} {z : Int} (h : x.toInt = z) (hy : y.toInt = z) : x = y := Int32.toInt_inj.mp (h.trans hy.symm)
/-- a scheme's number among schemes, by its paper -/
def sidx (S : Nat → Int32) (p : Int32) : Nat → Nat → Nat
  | 0, i => i
  | n + 1, i => if S (11490 + i) = p then i else sidx S p n (i + 1)
theorem sidx_spec {S : Nat → Int32} {p : Int32} : ∀ (n i j : Nat), i ≤ j → j < i + n → S (11490 + j) = p → (∀ k, i ≤ k → k < j → ¬ S (11490 + k) = p) → sidx S p n i = j
  | 0, i, j, h1, h2, h3, h4 => by omega
  | n + 1, i, j, h1, h2, h3, h4 => by
    unfold sidx
    by_cases e : i = j
    · subst e
      rw [if_pos h3]
    · rw [if_neg (h4 i (Nat.le_refl _) (by omega))]
      exact sidx_spec n (i + 1) j (by omega) (by omega) h3 (fun k q1 q2 => h4 k (by omega) q2)
theorem least_of {P : Nat → Prop} {n : Nat} (h : ∃ i, i < n ∧ P i) : ∃ i, i < n ∧ P i ∧ ∀ j, j < i → ¬ P j := by
  obtain ⟨i, h1, h2⟩ := pk_least (fun i => i < n ∧ P i) h
  exact ⟨i, h1.1, h1.2, fun j hj q => h2 j hj ⟨by omega, q⟩⟩
/-- every scheme has its place -/
def Isp (S : Nat → Int32) : Prop := ∀ p, p < sn S 2 → S (370 + p) = 1 → ∃ i, i < sn S 9 ∧ S (11490 + i) = nI p
def sI (S : Nat → Int32) (p : Int32) : Nat := sidx S p 12 0
theorem sI_lt {S : Nat → Int32} {p : Int32} {n : Nat} (hn : n ≤ 12) (h : ∃ i, i < n ∧ S (11490 + i) = p) : sI S p < n ∧ S (11490 + sI S p) = p := by
  obtain ⟨i, h1, h2, h3⟩ := least_of h
  have e : sI S p = i := sidx_spec 12 0 i (by omega) (by omega) h2 (fun k _ q => h3 k q)
  rw [e]
  exact ⟨h1, h2⟩
theorem c_indexOf {w : Wd} {h : Hp} {m : Nat} {ad : Nat → Nat} {A : Nat → Nat → Int32} {B : Nat → Nat → Int64} {F S : Nat → Int32} (mb : MB h m ad) {p : Int32} (hsp : ∃ i, i < 12 ∧ S (11490 + i) = p) : Con w mX2_indexOf cX2_indexOf 1 0 0 [.ref m, .int p] (ms h A B F S) (Rv (.int (nI (sI S p))) (ms h A B F S)) := by
  refine Con.of (by decide +kernel) rfl rfl ?_
  show V w mX2_indexOf cX2_indexOf 1 0 0 _ 0 [some (.ref m), some (.int p), none] [] _
  obtain ⟨j, hj, hj2, hj3⟩ := least_of hsp
  have e : sI S p = j := sidx_spec 12 0 j (by omega) (by omega) hj2 (fun k _ q => hj3 k q)
  rw [e]
  refine V_iconst (v := 0) (by decide) eX2_indexOf_0 ?_
  refine V_istore2 rfl eX2_indexOf_1 rfl ?_
  refine zloop (P := fun i => V w mX2_indexOf cX2_indexOf 1 0 0 (ms h A B F S) 2 [some (.ref m), some (.int p), some (.int (nI i))] [] _) j (fun i hi ih => ?_) 0 (Nat.zero_le _)
  refine V_aload0 eX2_indexOf_2 rfl ?_
  refine M_ga mb rfl eX2_indexOf_3 fl_X2_8_2 ?_
  refine V_sipush (v := 11490) (by decide) eX2_indexOf_6 ?_
  refine V_iload2 eX2_indexOf_9 ?_
  refine V_iadd eX2_indexOf_10 ?_
  refine M_sl (n := (11490 + i)) mb (zadd rfl rfl) (by omega) rfl eX2_indexOf_11 ?_
  refine V_iload1 eX2_indexOf_12 ?_
  refine V_if_icmpeq eX2_indexOf_13 (fun c13 => ?_) (fun c13 => ?_)
  · have e2 : i = j := by
      rcases (show i < j ∨ i = j by omega) with q | q
      · exact absurd c13 (hj3 i q)
      · exact q
    refine V_iload2 eX2_indexOf_22 ?_
    exact V_ireturn eX2_indexOf_23 rfl (Rv.i (by rw [e2]))
  · refine V_iincN2 rfl eX2_indexOf_16 rfl ?_
    refine V_goto eX2_indexOf_19 ?_
    exact ih (by have : i ≠ j := fun q => c13 (by rw [q]; exact hj2)
                 omega)

theorem c_sharesAt {w : Wd} {h : Hp} {m : Nat} {ad : Nat → Nat} {A : Nat → Nat → Int32} {B : Nat → Nat → Int64} {F S : Nat → Int32} (mb : MB h m ad) {p : Int32} (hsp : ∃ i, i < 12 ∧ S (11490 + i) = p) (k : Nat) : Con w mX2_sharesAt cX2_sharesAt 2 0 0 [.ref m, .int p, .int (nI k)] (ms h A B F S) (Rv (.int (nI (11530 + 9 * sI S p + k))) (ms h A B F S)) := by
  refine Con.of (by decide +kernel) rfl rfl ?_
  show V w mX2_sharesAt cX2_sharesAt 2 0 0 _ 0 [some (.ref m), some (.int p), some (.int (nI k))] [] _
  refine V_sipush (v := 11530) (by decide) eX2_sharesAt_0 ?_
  refine V_bipush (v := 9) (by decide) eX2_sharesAt_3 ?_
  refine V_aload0 eX2_sharesAt_5 rfl ?_
  refine V_iload1 eX2_sharesAt_6 ?_
  refine M_call mb eX2_sharesAt_7 lmX2_indexOf q2289 q2291 rfl qs89 (c_indexOf mb hsp) rfl rfl rfl rfl ?_
  refine V_imul eX2_sharesAt_10 ?_
  refine V_iadd eX2_sharesAt_11 ?_
  refine V_iload2 eX2_sharesAt_12 ?_
  refine V_iadd eX2_sharesAt_13 ?_
  exact V_ireturn eX2_sharesAt_14 rfl (Rv.i (zadd (zadd rfl (zmul rfl rfl)) rfl))
theorem zof_get {S : Nat → Int32} {p k : Int32} {np : Nat} (h : zof S p k = true) (hnp : S 2 = nI np) (hm : np ≤ 60) : ∃ q, q < np ∧ p = nI q ∧ S (370 + q) = k := by
  unfold zof at h
  simp only [Bool.and_eq_true, decide_eq_true_eq] at h
  obtain ⟨q, hq, rfl⟩ := zinC h.1 hnp (by omega)
  rw [nI_clamp (by omega)] at h
  exact ⟨q, hq, rfl, h.2⟩
theorem sidx_up {S : Nat → Int32} {p x : Int32} {k : Nat} (hk : k < 11490 ∨ 11502 ≤ k) : ∀ n i, i + n ≤ 12 → sidx (va_up S k x) p n i = sidx S p n i
  | 0, i, h => rfl
  | n + 1, i, h => by
    unfold sidx
    rw [va_up_ne _ _ (show 11490 + i ≠ k by omega), sidx_up hk n (i + 1) (by omega)]
theorem sI_up {S : Nat → Int32} {p x : Int32} {k : Nat} (hk : k < 11490 ∨ 11502 ≤ k) : sI (va_up S k x) p = sI S p := sidx_up hk 12 0 (by omega)
theorem sp_up {S : Nat → Int32} {p x : Int32} {k : Nat} (hk : k < 11490 ∨ 11502 ≤ k) (h : ∃ i, i < 12 ∧ S (11490 + i) = p) : ∃ i, i < 12 ∧ va_up S k x (11490 + i) = p := by
  obtain ⟨i, h1, h2⟩ := h
  exact ⟨i, h1, by rw [va_up_ne _ _ (show 11490 + i ≠ k by omega)]; exact h2⟩
/-- the place of a holder's shares in a scheme -/
abbrev shAt (S : Nat → Int32) (p : Int32) (k : Nat) : Nat := 11530 + 9 * sI S p + k
def o_scrip (S : Nat → Int32) (sch hol n : Int32) : Int32 × (Nat → Int32) :=
  if zof S sch 1 = false ∨ zin hol 0 7 = 0 then (-1, S) else if zin n 1 99 = 0 then (-2, S) else
  if S (790 + sch.toNatClampNeg) = 1 ∨ ¬ n ≤ S (shAt S sch 8) then (-3, S) else
  (S (shAt S sch hol.toNatClampNeg) + n, va_up (va_up S (shAt S sch 8) (S (shAt S sch 8) - n)) (shAt S sch hol.toNatClampNeg) (S (shAt S sch hol.toNatClampNeg) + n))
def o_held (S : Nat → Int32) (sch hol : Int32) : Int32 × (Nat → Int32) := if zof S sch 1 = false ∨ zin hol 0 8 = 0 then (-1, S) else (S (shAt S sch hol.toNatClampNeg), S)
def o_purse (S : Nat → Int32) (what which : Int32) : Int32 × (Nat → Int32) :=
  if what = 0 then (if zin which 0 7 = 0 then (-1, S) else (S (192 + which.toNatClampNeg), S)) else
  if what = 1 ∧ zof S which 1 = true then (S (11502 + sI S which), S) else (-1, S)
def o_read (S : Nat → Int32) (sch : Int32) : Int32 × (Nat → Int32) := if zof S sch 1 = true then (S (11514 + sI S sch), S) else (-1, S)
def o_last (S : Nat → Int32) (bill what : Int32) : Int32 × (Nat → Int32) :=
  if zof S bill 3 = false ∨ zin what 0 1 = 0 then (-1, S) else if ¬ S (790 + bill.toNatClampNeg) = 1 then (-3, S) else
  if what = 0 then (S (970 + bill.toNatClampNeg), S) else (S (1030 + bill.toNatClampNeg), S)
theorem c_scrip {w : Wd} {h : Hp} {m : Nat} {ad : Nat → Nat} {A : Nat → Nat → Int32} {B : Nat → Nat → Int64} {F S : Nat → Int32} (mb : MB h m ad) (sch : Int32) (hol : Int32) (n : Int32) {np : Nat} (hnp : S 2 = nI np) (hnp60 : np ≤ 60) (isp : ∀ p, p < np → S (370 + p) = 1 → ∃ i, i < 12 ∧ S (11490 + i) = nI p) : Con w mX2_scrip cX2_scrip 5 0 0 [.ref m, .int sch, .int hol, .int n] (ms h A B F S) (Rv (.int (o_scrip S sch hol n).1) (ms h A B F (o_scrip S sch hol n).2)) := by
  refine Con.of (by decide +kernel) rfl rfl ?_
  show V w mX2_scrip cX2_scrip 5 0 0 _ 0 [some (.ref m), some (.int sch), some (.int hol), some (.int n)] [] _
  refine V_aload0 eX2_scrip_0 rfl ?_
  refine V_iload1 eX2_scrip_1 ?_
  refine M_call mb eX2_scrip_2 lmX2_isScheme q2277 q2279 rfl qs86 (c_isScheme mb _ hnp hnp60) rfl rfl rfl rfl ?_
  refine V_ifeq eX2_scrip_5 (fun c5 => ?_) (fun c5 => ?_)
  · have hz := bI_0.mp c5
    refine V_iconst (v := -1) (by decide) eX2_scrip_15 ?_
    exact V_ireturn eX2_scrip_16 rfl (Rv.p (by clear mb; (try clear ih); first | grind [o_scrip] | grind [o_scrip, nI_pred, nI_1]))
  · have hz := bI_n0.mp c5
    obtain ⟨p, hp, rfl, hk⟩ := zof_get hz hnp hnp60
    have hcl : (nI p).toNatClampNeg = p := nI_clamp (by omega)
    have hsp := isp p hp hk
    have hlt := (sI_lt (Nat.le_refl 12) hsp).1
    refine V_iload2 eX2_scrip_8 ?_
    refine C0_static eX2_scrip_9 lmX2_isHolder q1977 q1978 (c_isHolder _ _) rfl rfl rfl rfl ?_
    refine V_ifne eX2_scrip_12 (fun c12 => ?_) (fun c12 => ?_)
    · obtain ⟨c, hc, rfl⟩ := zinN (m := 7) c12 rfl (by decide)
      have hcc : (nI c).toNatClampNeg = c := nI_clamp (by omega)
      refine V_iload3 eX2_scrip_17 ?_
      refine V_iconst (v := 1) (by decide) eX2_scrip_18 ?_
      refine V_bipush (v := 99) (by decide) eX2_scrip_19 ?_
      refine C0_static eX2_scrip_21 lmX2_in q1966 q1967 (c_in _ _ _ _) rfl rfl rfl rfl ?_
      refine V_ifne eX2_scrip_24 (fun c24 => ?_) (fun c24 => ?_)
      · refine V_aload0 eX2_scrip_30 rfl ?_
        refine V_iload1 eX2_scrip_31 ?_
        refine M_call mb eX2_scrip_32 lmX2_isFallen q2281 q2283 rfl qs87 (c_isFallen mb (p := p) (by omega)) rfl rfl rfl rfl ?_
        refine V_ifne eX2_scrip_35 (fun c35 => ?_) (fun c35 => ?_)
        · have hf : S (790 + p) = 1 := by simpa [bI] using c35
          refine V_bipush (v := -3) (by decide) eX2_scrip_54 ?_
          exact V_ireturn eX2_scrip_56 rfl (Rv.p (by clear mb; (try clear ih); first | grind [o_scrip] | grind [o_scrip, nI_pred, nI_1]))
        · have hf : ¬ S (790 + p) = 1 := by simpa [bI] using c35
          refine V_aload0 eX2_scrip_38 rfl ?_
          refine M_ga mb rfl eX2_scrip_39 fl_X2_8_2 ?_
          refine V_aload0 eX2_scrip_42 rfl ?_
          refine V_iload1 eX2_scrip_43 ?_
          refine V_bipush (v := 8) (by decide) eX2_scrip_44 ?_
          refine M_call mb eX2_scrip_46 lmX2_sharesAt q2285 q2287 rfl qs88 (c_sharesAt mb hsp 8) rfl rfl rfl rfl ?_
          refine M_sl (n := (11530 + 9 * sI S (nI p) + 8)) mb rfl (by omega) rfl eX2_scrip_49 ?_
          refine V_iload3 eX2_scrip_50 ?_
          refine V_if_icmpge eX2_scrip_51 (fun c51 => ?_) (fun c51 => ?_)
          · refine V_aload0 eX2_scrip_57 rfl ?_
            refine M_ga mb rfl eX2_scrip_58 fl_X2_8_2 ?_
            refine V_aload0 eX2_scrip_61 rfl ?_
            refine V_iload1 eX2_scrip_62 ?_
            refine V_bipush (v := 8) (by decide) eX2_scrip_63 ?_
            refine M_call mb eX2_scrip_65 lmX2_sharesAt q2285 q2287 rfl qs88 (c_sharesAt mb hsp 8) rfl rfl rfl rfl ?_
            refine V_dup2 rfl rfl eX2_scrip_68 ?_
            refine M_sl (n := (11530 + 9 * sI S (nI p) + 8)) mb rfl (by omega) rfl eX2_scrip_69 ?_
            refine V_iload3 eX2_scrip_70 ?_
            refine V_isub eX2_scrip_71 ?_
            refine M_ss (n := (11530 + 9 * sI S (nI p) + 8)) mb rfl (by omega) eX2_scrip_72 ?_
            refine V_aload0 eX2_scrip_73 rfl ?_
            refine M_ga mb rfl eX2_scrip_74 fl_X2_8_2 ?_
            refine V_aload0 eX2_scrip_77 rfl ?_
            refine V_iload1 eX2_scrip_78 ?_
            refine V_iload2 eX2_scrip_79 ?_
            refine M_call mb eX2_scrip_80 lmX2_sharesAt q2285 q2287 rfl qs88 (c_sharesAt mb (sp_up (Or.inr (by omega)) hsp) c) rfl rfl rfl rfl ?_
            rw [sI_up (Or.inr (by omega))]
            refine V_dup2 rfl rfl eX2_scrip_83 ?_
            refine M_sl (n := (11530 + 9 * sI S (nI p) + c)) mb rfl (by omega) (rdn (by omega) rfl) eX2_scrip_84 ?_
            refine V_iload3 eX2_scrip_85 ?_
            refine V_iadd eX2_scrip_86 ?_
            refine M_ss (n := (11530 + 9 * sI S (nI p) + c)) mb rfl (by omega) eX2_scrip_87 ?_
            refine V_aload0 eX2_scrip_88 rfl ?_
            refine M_ga mb rfl eX2_scrip_89 fl_X2_8_2 ?_
            refine V_aload0 eX2_scrip_92 rfl ?_
            refine V_iload1 eX2_scrip_93 ?_
            refine V_iload2 eX2_scrip_94 ?_
            refine M_call mb eX2_scrip_95 lmX2_sharesAt q2285 q2287 rfl qs88 (c_sharesAt mb (sp_up (Or.inr (by omega)) (sp_up (Or.inr (by omega)) hsp)) c) rfl rfl rfl rfl ?_
            rw [sI_up (Or.inr (by omega)), sI_up (Or.inr (by omega))]
            refine M_sl (n := (11530 + 9 * sI S (nI p) + c)) mb rfl (by omega) (va_up_self _ _ _) eX2_scrip_98 ?_
            exact V_ireturn eX2_scrip_99 rfl (Rv.p (by clear mb; (try clear ih); first | grind [o_scrip] | grind [o_scrip, nI_pred, nI_1]))
          · refine V_bipush (v := -3) (by decide) eX2_scrip_54 ?_
            exact V_ireturn eX2_scrip_56 rfl (Rv.p (by clear mb; (try clear ih); first | grind [o_scrip] | grind [o_scrip, nI_pred, nI_1]))
      · refine V_bipush (v := -2) (by decide) eX2_scrip_27 ?_
        exact V_ireturn eX2_scrip_29 rfl (Rv.p (by clear mb; (try clear ih); first | grind [o_scrip] | grind [o_scrip, nI_pred, nI_1]))
    · refine V_iconst (v := -1) (by decide) eX2_scrip_15 ?_
      exact V_ireturn eX2_scrip_16 rfl (Rv.p (by clear mb; (try clear ih); first | grind [o_scrip] | grind [o_scrip, nI_pred, nI_1]))

theorem c_held {w : Wd} {h : Hp} {m : Nat} {ad : Nat → Nat} {A : Nat → Nat → Int32} {B : Nat → Nat → Int64} {F S : Nat → Int32} (mb : MB h m ad) (sch : Int32) (hol : Int32) {np : Nat} (hnp : S 2 = nI np) (hnp60 : np ≤ 60) (isp : ∀ p, p < np → S (370 + p) = 1 → ∃ i, i < 12 ∧ S (11490 + i) = nI p) : Con w mX2_held cX2_held 5 0 0 [.ref m, .int sch, .int hol] (ms h A B F S) (Rv (.int (o_held S sch hol).1) (ms h A B F (o_held S sch hol).2)) := by
  refine Con.of (by decide +kernel) rfl rfl ?_
  show V w mX2_held cX2_held 5 0 0 _ 0 [some (.ref m), some (.int sch), some (.int hol)] [] _
  refine V_aload0 eX2_held_0 rfl ?_
  refine V_iload1 eX2_held_1 ?_
  refine M_call mb eX2_held_2 lmX2_isScheme q2277 q2279 rfl qs86 (c_isScheme mb _ hnp hnp60) rfl rfl rfl rfl ?_
  refine V_ifeq eX2_held_5 (fun c5 => ?_) (fun c5 => ?_)
  · have hz := bI_0.mp c5
    refine V_iconst (v := -1) (by decide) eX2_held_32 ?_
    exact V_ireturn eX2_held_33 rfl (Rv.p (by clear mb; (try clear ih); first | grind [o_held] | grind [o_held, nI_pred, nI_1]))
  · have hz := bI_n0.mp c5
    obtain ⟨p, hp, rfl, hk⟩ := zof_get hz hnp hnp60
    have hcl : (nI p).toNatClampNeg = p := nI_clamp (by omega)
    have hsp := isp p hp hk
    have hlt := (sI_lt (Nat.le_refl 12) hsp).1
    refine V_iload2 eX2_held_8 ?_
    refine V_iconst (v := 0) (by decide) eX2_held_9 ?_
    refine V_bipush (v := 8) (by decide) eX2_held_10 ?_
    refine C0_static eX2_held_12 lmX2_in q1966 q1967 (c_in _ _ _ _) rfl rfl rfl rfl ?_
    refine V_ifeq eX2_held_15 (fun c15 => ?_) (fun c15 => ?_)
    · refine V_iconst (v := -1) (by decide) eX2_held_32 ?_
      exact V_ireturn eX2_held_33 rfl (Rv.p (by clear mb; (try clear ih); first | grind [o_held] | grind [o_held, nI_pred, nI_1]))
    · obtain ⟨c, hc, rfl⟩ := zinN (m := 8) c15 rfl (by decide)
      have hcc : (nI c).toNatClampNeg = c := nI_clamp (by omega)
      refine V_aload0 eX2_held_18 rfl ?_
      refine M_ga mb rfl eX2_held_19 fl_X2_8_2 ?_
      refine V_aload0 eX2_held_22 rfl ?_
      refine V_iload1 eX2_held_23 ?_
      refine V_iload2 eX2_held_24 ?_
      refine M_call mb eX2_held_25 lmX2_sharesAt q2285 q2287 rfl qs88 (c_sharesAt mb hsp c) rfl rfl rfl rfl ?_
      refine M_sl (n := (11530 + 9 * sI S (nI p) + c)) mb rfl (by omega) rfl eX2_held_28 ?_
      refine V_goto eX2_held_29 ?_
      exact V_ireturn eX2_held_33 rfl (Rv.p (by clear mb; (try clear ih); first | grind [o_held] | grind [o_held, nI_pred, nI_1]))

theorem c_purse {w : Wd} {h : Hp} {m : Nat} {ad : Nat → Nat} {A : Nat → Nat → Int32} {B : Nat → Nat → Int64} {F S : Nat → Int32} (mb : MB h m ad) (what : Int32) (which : Int32) {np : Nat} (hnp : S 2 = nI np) (hnp60 : np ≤ 60) (isp : ∀ p, p < np → S (370 + p) = 1 → ∃ i, i < 12 ∧ S (11490 + i) = nI p) : Con w mX2_purse cX2_purse 5 0 0 [.ref m, .int what, .int which] (ms h A B F S) (Rv (.int (o_purse S what which).1) (ms h A B F (o_purse S what which).2)) := by
  refine Con.of (by decide +kernel) rfl rfl ?_
  show V w mX2_purse cX2_purse 5 0 0 _ 0 [some (.ref m), some (.int what), some (.int which)] [] _
  refine V_iload1 eX2_purse_0 ?_
  refine V_ifne eX2_purse_1 (fun c1 => ?_) (fun c1 => ?_)
  · refine V_iload1 eX2_purse_26 ?_
    refine V_iconst (v := 1) (by decide) eX2_purse_27 ?_
    refine V_if_icmpne eX2_purse_28 (fun c28 => ?_) (fun c28 => ?_)
    · refine V_iconst (v := -1) (by decide) eX2_purse_56 ?_
      exact V_ireturn eX2_purse_57 rfl (Rv.p (by clear mb; (try clear ih); first | grind [o_purse] | grind [o_purse, nI_pred, nI_1]))
    · refine V_aload0 eX2_purse_31 rfl ?_
      refine V_iload2 eX2_purse_32 ?_
      refine M_call mb eX2_purse_33 lmX2_isScheme q2277 q2279 rfl qs86 (c_isScheme mb _ hnp hnp60) rfl rfl rfl rfl ?_
      refine V_ifeq eX2_purse_36 (fun c36 => ?_) (fun c36 => ?_)
      · have hz := bI_0.mp c36
        refine V_iconst (v := -1) (by decide) eX2_purse_56 ?_
        exact V_ireturn eX2_purse_57 rfl (Rv.p (by clear mb; (try clear ih); first | grind [o_purse] | grind [o_purse, nI_pred, nI_1]))
      · have hz := bI_n0.mp c36
        obtain ⟨p, hp, rfl, hk⟩ := zof_get hz hnp hnp60
        have hcl : (nI p).toNatClampNeg = p := nI_clamp (by omega)
        have hsp := isp p hp hk
        have hlt := (sI_lt (Nat.le_refl 12) hsp).1
        refine V_aload0 eX2_purse_39 rfl ?_
        refine M_ga mb rfl eX2_purse_40 fl_X2_8_2 ?_
        refine V_sipush (v := 11502) (by decide) eX2_purse_43 ?_
        refine V_aload0 eX2_purse_46 rfl ?_
        refine V_iload2 eX2_purse_47 ?_
        refine M_call mb eX2_purse_48 lmX2_indexOf q2289 q2291 rfl qs89 (c_indexOf mb hsp) rfl rfl rfl rfl ?_
        refine V_iadd eX2_purse_51 ?_
        refine M_sl (n := (11502 + (sI S (nI p)))) mb (zadd rfl rfl) (by omega) rfl eX2_purse_52 ?_
        refine V_goto eX2_purse_53 ?_
        exact V_ireturn eX2_purse_57 rfl (Rv.p (by clear mb; (try clear ih); first | grind [o_purse] | grind [o_purse, nI_pred, nI_1]))
  · refine V_iload2 eX2_purse_4 ?_
    refine C0_static eX2_purse_5 lmX2_isHolder q1977 q1978 (c_isHolder _ _) rfl rfl rfl rfl ?_
    refine V_ifeq eX2_purse_8 (fun c8 => ?_) (fun c8 => ?_)
    · refine V_iconst (v := -1) (by decide) eX2_purse_24 ?_
      exact V_ireturn eX2_purse_25 rfl (Rv.p (by clear mb; (try clear ih); first | grind [o_purse] | grind [o_purse, nI_pred, nI_1]))
    · obtain ⟨c, hc, rfl⟩ := zinN (m := 7) c8 rfl (by decide)
      have hcc : (nI c).toNatClampNeg = c := nI_clamp (by omega)
      refine V_aload0 eX2_purse_11 rfl ?_
      refine M_ga mb rfl eX2_purse_12 fl_X2_8_2 ?_
      refine V_sipush (v := 192) (by decide) eX2_purse_15 ?_
      refine V_iload2 eX2_purse_18 ?_
      refine V_iadd eX2_purse_19 ?_
      refine M_sl (n := (192 + c)) mb (zadd rfl rfl) (by omega) rfl eX2_purse_20 ?_
      refine V_goto eX2_purse_21 ?_
      exact V_ireturn eX2_purse_25 rfl (Rv.p (by clear mb; (try clear ih); first | grind [o_purse] | grind [o_purse, nI_pred, nI_1]))

theorem c_read {w : Wd} {h : Hp} {m : Nat} {ad : Nat → Nat} {A : Nat → Nat → Int32} {B : Nat → Nat → Int64} {F S : Nat → Int32} (mb : MB h m ad) (sch : Int32) {np : Nat} (hnp : S 2 = nI np) (hnp60 : np ≤ 60) (isp : ∀ p, p < np → S (370 + p) = 1 → ∃ i, i < 12 ∧ S (11490 + i) = nI p) : Con w mX2_read cX2_read 5 0 0 [.ref m, .int sch] (ms h A B F S) (Rv (.int (o_read S sch).1) (ms h A B F (o_read S sch).2)) := by
  refine Con.of (by decide +kernel) rfl rfl ?_
  show V w mX2_read cX2_read 5 0 0 _ 0 [some (.ref m), some (.int sch)] [] _
  refine V_aload0 eX2_read_0 rfl ?_
  refine V_iload1 eX2_read_1 ?_
  refine M_call mb eX2_read_2 lmX2_isScheme q2277 q2279 rfl qs86 (c_isScheme mb _ hnp hnp60) rfl rfl rfl rfl ?_
  refine V_ifeq eX2_read_5 (fun c5 => ?_) (fun c5 => ?_)
  · have hz := bI_0.mp c5
    refine V_iconst (v := -1) (by decide) eX2_read_25 ?_
    exact V_ireturn eX2_read_26 rfl (Rv.p (by clear mb; (try clear ih); first | grind [o_read] | grind [o_read, nI_pred, nI_1]))
  · have hz := bI_n0.mp c5
    obtain ⟨p, hp, rfl, hk⟩ := zof_get hz hnp hnp60
    have hcl : (nI p).toNatClampNeg = p := nI_clamp (by omega)
    have hsp := isp p hp hk
    have hlt := (sI_lt (Nat.le_refl 12) hsp).1
    refine V_aload0 eX2_read_8 rfl ?_
    refine M_ga mb rfl eX2_read_9 fl_X2_8_2 ?_
    refine V_sipush (v := 11514) (by decide) eX2_read_12 ?_
    refine V_aload0 eX2_read_15 rfl ?_
    refine V_iload1 eX2_read_16 ?_
    refine M_call mb eX2_read_17 lmX2_indexOf q2289 q2291 rfl qs89 (c_indexOf mb hsp) rfl rfl rfl rfl ?_
    refine V_iadd eX2_read_20 ?_
    refine M_sl (n := (11514 + (sI S (nI p)))) mb (zadd rfl rfl) (by omega) rfl eX2_read_21 ?_
    refine V_goto eX2_read_22 ?_
    exact V_ireturn eX2_read_26 rfl (Rv.p (by clear mb; (try clear ih); first | grind [o_read] | grind [o_read, nI_pred, nI_1]))

theorem c_last {w : Wd} {h : Hp} {m : Nat} {ad : Nat → Nat} {A : Nat → Nat → Int32} {B : Nat → Nat → Int64} {F S : Nat → Int32} (mb : MB h m ad) (bill : Int32) (what : Int32) {np : Nat} (hnp : S 2 = nI np) (hnp60 : np ≤ 60) : Con w mX2_last cX2_last 5 0 0 [.ref m, .int bill, .int what] (ms h A B F S) (Rv (.int (o_last S bill what).1) (ms h A B F (o_last S bill what).2)) := by
  refine Con.of (by decide +kernel) rfl rfl ?_
  show V w mX2_last cX2_last 5 0 0 _ 0 [some (.ref m), some (.int bill), some (.int what)] [] _
  refine V_aload0 eX2_last_0 rfl ?_
  refine V_iload1 eX2_last_1 ?_
  refine V_iconst (v := 3) (by decide) eX2_last_2 ?_
  refine M_call mb eX2_last_3 lmX2_isOf q2119 q2121 rfl qs67 (c_isOf mb _ _ hnp hnp60) rfl rfl rfl rfl ?_
  refine V_ifeq eX2_last_6 (fun c6 => ?_) (fun c6 => ?_)
  · have hz := bI_0.mp c6
    refine V_iconst (v := -1) (by decide) eX2_last_18 ?_
    exact V_ireturn eX2_last_19 rfl (Rv.p (by clear mb; (try clear ih); first | grind [o_last] | grind [o_last, nI_pred, nI_1]))
  · have hz := bI_n0.mp c6
    obtain ⟨p, hp, rfl, hk⟩ := zof_get hz hnp hnp60
    have hcl : (nI p).toNatClampNeg = p := nI_clamp (by omega)
    refine V_iload2 eX2_last_9 ?_
    refine V_iconst (v := 0) (by decide) eX2_last_10 ?_
    refine V_iconst (v := 1) (by decide) eX2_last_11 ?_
    refine C0_static eX2_last_12 lmX2_in q1966 q1967 (c_in _ _ _ _) rfl rfl rfl rfl ?_
    refine V_ifne eX2_last_15 (fun c15 => ?_) (fun c15 => ?_)
    · refine V_aload0 eX2_last_20 rfl ?_
      refine V_iload1 eX2_last_21 ?_
      refine M_call mb eX2_last_22 lmX2_isGranted q2230 q2232 rfl qs82 (c_isGranted mb (p := p) (by omega)) rfl rfl rfl rfl ?_
      refine V_ifne eX2_last_25 (fun c25 => ?_) (fun c25 => ?_)
      · have hf : S (790 + p) = 1 := by simpa [bI, hk] using c25
        refine V_iload2 eX2_last_33 ?_
        refine V_ifne eX2_last_34 (fun c34 => ?_) (fun c34 => ?_)
        · refine V_aload0 eX2_last_50 rfl ?_
          refine M_ga mb rfl eX2_last_51 fl_X2_8_2 ?_
          refine V_sipush (v := 1030) (by decide) eX2_last_54 ?_
          refine V_iload1 eX2_last_57 ?_
          refine V_iadd eX2_last_58 ?_
          refine M_sl (n := (1030 + p)) mb (zadd rfl rfl) (by omega) rfl eX2_last_59 ?_
          exact V_ireturn eX2_last_60 rfl (Rv.p (by clear mb; (try clear ih); first | grind [o_last] | grind [o_last, nI_pred, nI_1]))
        · refine V_aload0 eX2_last_37 rfl ?_
          refine M_ga mb rfl eX2_last_38 fl_X2_8_2 ?_
          refine V_sipush (v := 970) (by decide) eX2_last_41 ?_
          refine V_iload1 eX2_last_44 ?_
          refine V_iadd eX2_last_45 ?_
          refine M_sl (n := (970 + p)) mb (zadd rfl rfl) (by omega) rfl eX2_last_46 ?_
          refine V_goto eX2_last_47 ?_
          exact V_ireturn eX2_last_60 rfl (Rv.p (by clear mb; (try clear ih); first | grind [o_last] | grind [o_last, nI_pred, nI_1]))
      · have hf : ¬ S (790 + p) = 1 := by simpa [bI, hk] using c25
        refine V_bipush (v := -3) (by decide) eX2_last_28 ?_
        refine V_goto eX2_last_30 ?_
        exact V_ireturn eX2_last_60 rfl (Rv.p (by clear mb; (try clear ih); first | grind [o_last] | grind [o_last, nI_pred, nI_1]))
    · refine V_iconst (v := -1) (by decide) eX2_last_18 ?_
      exact V_ireturn eX2_last_19 rfl (Rv.p (by clear mb; (try clear ih); first | grind [o_last] | grind [o_last, nI_pred, nI_1]))

