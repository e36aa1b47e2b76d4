/-! sets as bits -/
def fMa (v : Int32) : Nat → Int32 → Int32 := fun k n => n + (v >>> (nI k &&& 31) &&& 1)
def zmany (v : Int32) : Int32 := zfold (fMa v) 30 0
/-- the towns that a line joins -/
def zends (S : Nat → Int32) (q : Nat) : Int32 := (1 : Int32) <<< (S (550 + q) &&& 31) ||| (1 : Int32) <<< (S (610 + q) &&& 31)
def fJn (S : Nat → Int32) (L : Nat → Nat) (bits : Int32) : Nat → Int32 → Int32 := fun k met => met ||| (if bits >>> (nI k &&& 31) &&& 1 = 1 ∧ ¬ met &&& zends S (L k) = 0 then zends S (L k) else 0)
def zjoin (S : Nat → Int32) (L : Nat → Nat) (towns bits : Int32) (n : Nat) : Bool :=
  decide (zmany towns < 2) || decide (towns &&& (zfold (fun _ x => zfold (fJn S L bits) n x) 6 (towns &&& -towns) ^^^ -1) = 0)
def fDb (S : Nat → Int32) (i : Nat) : Nat → Int32 → Int32 := fun k s => s ||| (if S (11290 + i) = S (11290 + k) ∧ S (11350 + i) = S (11350 + k) ∧ ¬ S (11410 + i) = S (11410 + k) then (1 : Int32) <<< (S (11290 + i) &&& 31) else 0)
def o_doubled (S : Nat → Int32) : Int32 × (Nat → Int32) := (zfold (fun i s => zfold (fDb S i) i s) (sn S 6) 0, S)
def dn3 (S : Nat → Int32) (p : Nat) : Bool := decide (S (370 + p) = 3) && decide (S (790 + p) = 1) && decide (S (970 + p) = 0)
def fMt (S : Nat → Int32) (g : Int32) : Nat → Int32 → Int32 := fun p x => if dn3 S p = true then x ||| (if S (670 + p) = g then zends S p else 0) else x
def o_meet (S : Nat → Int32) : Int32 × (Nat → Int32) := (zfold (fMt S 0) (sn S 2) 0 &&& zfold (fMt S 1) (sn S 2) 0, S)
/-- the first n places out of g, the others out of f -/
def zcp (f g : Nat → Int32) (n : Nat) : Nat → Int32 := fun j => if j < n then g j else f j
theorem zcp_0 (f g : Nat → Int32) : zcp f g 0 = f := by funext j; unfold zcp; rw [if_neg (by omega)]
theorem zcp_s (f g : Nat → Int32) (n : Nat) : va_up (zcp f g n) n (g n) = zcp f g (n + 1) := by
  funext j
  unfold va_up zcp
  by_cases e : j = n
  · subst e; rw [if_pos rfl, if_pos (by omega)]
  · rw [if_neg e]
    by_cases q : j < n
    · rw [if_pos q, if_pos (by omega)]
    · rw [if_neg q, if_neg (by omega)]
theorem c_many {w : Wd} (h : Hp) (v : Int32) : Con w mX2_many cX2_many 1 0 0 [.int v] h (Rv (.int (zmany v)) h) := by
  refine Con.of (by decide +kernel) rfl rfl ?_
  show V w mX2_many cX2_many 1 0 0 _ 0 [some (.int v), none, none] [] _
  refine V_iconst (v := 0) (by decide) eX2_many_0 ?_
  refine V_istore1 rfl eX2_many_1 rfl ?_
  refine V_iconst (v := 0) (by decide) eX2_many_2 ?_
  refine V_istore2 rfl eX2_many_3 rfl ?_
  refine zloop (P := fun i => ∀ acc : Int32, acc = zfold (fMa v) i 0 → V w mX2_many cX2_many 1 0 0 h 4 [some (.int v), some (.int acc), some (.int (nI i))] [] _) 30 (fun i hi ih acc ha => ?_) 0 (Nat.zero_le _) 0 rfl
  refine V_iload2 eX2_many_4 ?_
  refine V_bipush (v := 30) (by decide) eX2_many_5 ?_
  refine V_if_icmpge eX2_many_7 (fun c7 => ?_) (fun c7 => ?_)
  · have e : i = 30 := by have := nle (a := 30) c7 (by omega) (by omega); omega
    refine V_iload1 eX2_many_24 ?_
    exact V_ireturn eX2_many_25 rfl (Rv.i (by rw [ha, e, zmany]))
  · have hlt := nnle (a := 30) c7 (by omega) (by omega)
    refine V_iload1 eX2_many_10 ?_
    refine V_iload0 eX2_many_11 ?_
    refine V_iload2 eX2_many_12 ?_
    refine V_ishr eX2_many_13 ?_
    refine V_iconst (v := 1) (by decide) eX2_many_14 ?_
    refine V_iand eX2_many_15 ?_
    refine V_iadd eX2_many_16 ?_
    refine V_istore1 rfl eX2_many_17 rfl ?_
    refine V_iincN2 rfl eX2_many_18 rfl ?_
    refine V_goto eX2_many_21 ?_
    exact ih hlt _ (by rw [ha, zfold, fMa])

theorem c_areJoined {w : Wd} {h : Hp} {m : Nat} {ad : Nat → Nat} {A : Nat → Nat → Int32} {B : Nat → Nat → Int64} {F S : Nat → Int32} (mb : MB h m ad) (towns bits : Int32) {n : Nat} (Ln : Nat → Nat) (hn : n ≤ 60) (hl : ∀ k, k < n → A 19 k = nI (Ln k) ∧ Ln k < 60) : Con w mX2_areJoined cX2_areJoined 2 0 0 [.ref m, .int towns, .int bits, .int (nI n)] (ms h A B F S) (Rv (.int (bI (zjoin S Ln towns bits n))) (ms h A B F S)) := by
  refine Con.of (by decide +kernel) rfl rfl ?_
  show V w mX2_areJoined cX2_areJoined 2 0 0 _ 0 [some (.ref m), some (.int towns), some (.int bits), some (.int (nI n)), none, none, none, none] [] _
  refine V_iload1 eX2_areJoined_0 ?_
  refine C0_static eX2_areJoined_1 lmX2_many q2373 q2374 (c_many _ _) rfl rfl rfl rfl ?_
  refine V_iconst (v := 2) (by decide) eX2_areJoined_4 ?_
  refine V_if_icmpge eX2_areJoined_5 (fun c5 => ?_) (fun c5 => ?_)
  · refine V_iload1 eX2_areJoined_10 ?_
    refine V_iload1 eX2_areJoined_11 ?_
    refine V_ineg eX2_areJoined_12 ?_
    refine V_iand eX2_areJoined_13 ?_
    refine V_istore4 rfl eX2_areJoined_14 rfl ?_
    refine V_iconst (v := 0) (by decide) eX2_areJoined_16 ?_
    refine V_istore5 rfl eX2_areJoined_17 rfl ?_
    refine zloop (P := fun r => ∀ (o6 o7 : Option Value) (met : Int32), met = zfold (fun _ x => zfold (fJn S Ln bits) n x) r (towns &&& -towns) → V w mX2_areJoined cX2_areJoined 2 0 0 (ms h A B F S) 19 [some (.ref m), some (.int towns), some (.int bits), some (.int (nI n)), some (.int met), some (.int (nI r)), o6, o7] [] _) 6 (fun r hr ih o6 o7 met hm => ?_) 0 (Nat.zero_le _) none none _ rfl
    refine V_iload5 eX2_areJoined_19 ?_
    refine V_bipush (v := 6) (by decide) eX2_areJoined_21 ?_
    refine V_if_icmpge eX2_areJoined_23 (fun c23 => ?_) (fun c23 => ?_)
    · have e : r = 6 := by have := nle (a := 6) c23 (by omega) (by omega); omega
      subst e
      refine V_iload1 eX2_areJoined_115 ?_
      refine V_iload4 eX2_areJoined_116 ?_
      refine V_iconst (v := -1) (by decide) eX2_areJoined_118 ?_
      refine V_ixor eX2_areJoined_119 ?_
      refine V_iand eX2_areJoined_120 ?_
      refine V_ifne eX2_areJoined_121 (fun c121 => ?_) (fun c121 => ?_)
      · refine V_iconst (v := 0) (by decide) eX2_areJoined_128 ?_
        exact V_zreturn eX2_areJoined_129 rfl (by decide) (Rv.i (by rw [hm] at c121; unfold zjoin; rw [decide_eq_false (zlt_nle.mpr c5), decide_eq_false c121]; rfl))
      · refine V_iconst (v := 1) (by decide) eX2_areJoined_124 ?_
        refine V_goto eX2_areJoined_125 ?_
        exact V_zreturn eX2_areJoined_129 rfl (by decide) (Rv.i (by rw [hm] at c121; unfold zjoin; rw [decide_eq_true c121, Bool.or_true]; rfl))
    · have hr6 := nnle (a := 6) c23 (by omega) (by omega)
      refine V_iconst (v := 0) (by decide) eX2_areJoined_26 ?_
      refine V_istore6 rfl eX2_areJoined_27 rfl ?_
      obtain ⟨m0, hm0⟩ : ∃ m0, m0 = met := ⟨_, rfl⟩
      rw [← hm0]
      refine zloop (P := fun k => ∀ (o7 : Option Value) (met : Int32), met = zfold (fJn S Ln bits) k m0 → V w mX2_areJoined cX2_areJoined 2 0 0 (ms h A B F S) 29 [some (.ref m), some (.int towns), some (.int bits), some (.int (nI n)), some (.int met), some (.int (nI r)), some (.int (nI k)), o7] [] _) n (fun k hk ih2 o7 met hm2 => ?_) 0 (Nat.zero_le _) o7 m0 rfl
      refine V_iload6 eX2_areJoined_29 ?_
      refine V_iload3 eX2_areJoined_31 ?_
      refine V_if_icmpge eX2_areJoined_32 (fun c32 => ?_) (fun c32 => ?_)
      · have hke : k = n := by have := nle c32 (by omega) (by omega); omega
        refine V_iincN5 rfl eX2_areJoined_109 rfl ?_
        refine V_goto eX2_areJoined_112 ?_
        exact ih hr6 _ _ _ (by rw [zfold, ← hm, ← hm0, hm2, hke])
      · have hklt := nnle c32 (by omega) (by omega)
        have hL := hl k hklt
        refine V_iconst (v := 1) (by decide) eX2_areJoined_35 ?_
        refine V_aload0 eX2_areJoined_36 rfl ?_
        refine M_ga mb rfl eX2_areJoined_37 fl_X2_8_2 ?_
        refine V_sipush (v := 550) (by decide) eX2_areJoined_40 ?_
        refine V_aload0 eX2_areJoined_43 rfl ?_
        refine M_ga mb rfl eX2_areJoined_44 fl_X2_48_2 ?_
        refine V_iload6 eX2_areJoined_47 ?_
        refine M_al (j := 19) (n := k) mb rfl (by decide) rfl (by show _ < _; first | decide | (simp only [mlen]; omega)) hL.1 eX2_areJoined_49 ?_
        refine V_iadd eX2_areJoined_50 ?_
        refine M_sl (n := (550 + (Ln k))) mb (zadd rfl rfl) (by omega) rfl eX2_areJoined_51 ?_
        refine V_ishl eX2_areJoined_52 ?_
        refine V_iconst (v := 1) (by decide) eX2_areJoined_53 ?_
        refine V_aload0 eX2_areJoined_54 rfl ?_
        refine M_ga mb rfl eX2_areJoined_55 fl_X2_8_2 ?_
        refine V_sipush (v := 610) (by decide) eX2_areJoined_58 ?_
        refine V_aload0 eX2_areJoined_61 rfl ?_
        refine M_ga mb rfl eX2_areJoined_62 fl_X2_48_2 ?_
        refine V_iload6 eX2_areJoined_65 ?_
        refine M_al (j := 19) (n := k) mb rfl (by decide) rfl (by show _ < _; first | decide | (simp only [mlen]; omega)) hL.1 eX2_areJoined_67 ?_
        refine V_iadd eX2_areJoined_68 ?_
        refine M_sl (n := (610 + (Ln k))) mb (zadd rfl rfl) (by omega) rfl eX2_areJoined_69 ?_
        refine V_ishl eX2_areJoined_70 ?_
        refine V_ior eX2_areJoined_71 ?_
        have he : zends S (Ln k) = (1 : Int32) <<< (S (550 + Ln k) &&& 31) ||| (1 : Int32) <<< (S (610 + Ln k) &&& 31) := rfl
        rw [← he]
        refine V_istore7 rfl eX2_areJoined_72 rfl ?_
        refine V_iload4 eX2_areJoined_74 ?_
        refine V_iload2 eX2_areJoined_76 ?_
        refine V_iload6 eX2_areJoined_77 ?_
        refine V_ishr eX2_areJoined_79 ?_
        refine V_iconst (v := 1) (by decide) eX2_areJoined_80 ?_
        refine V_iand eX2_areJoined_81 ?_
        refine V_iconst (v := 1) (by decide) eX2_areJoined_82 ?_
        refine V_if_icmpne eX2_areJoined_83 (fun c83 => ?_) (fun c83 => ?_)
        · refine V_iconst (v := 0) (by decide) eX2_areJoined_99 ?_
          refine V_ior eX2_areJoined_100 ?_
          refine V_istore4 rfl eX2_areJoined_101 rfl ?_
          refine V_iincN6 rfl eX2_areJoined_103 rfl ?_
          refine V_goto eX2_areJoined_106 ?_
          exact ih2 hklt _ _ (by rw [zfold, ← hm2]; unfold fJn; rw [if_neg (fun q => c83 q.1)])
        · refine V_iload4 eX2_areJoined_86 ?_
          refine V_iload7 eX2_areJoined_88 ?_
          refine V_iand eX2_areJoined_90 ?_
          refine V_ifeq eX2_areJoined_91 (fun c91 => ?_) (fun c91 => ?_)
          · refine V_iconst (v := 0) (by decide) eX2_areJoined_99 ?_
            refine V_ior eX2_areJoined_100 ?_
            refine V_istore4 rfl eX2_areJoined_101 rfl ?_
            refine V_iincN6 rfl eX2_areJoined_103 rfl ?_
            refine V_goto eX2_areJoined_106 ?_
            exact ih2 hklt _ _ (by rw [zfold, ← hm2]; unfold fJn; rw [if_neg (fun q => q.2 c91)])
          · refine V_iload7 eX2_areJoined_94 ?_
            refine V_goto eX2_areJoined_96 ?_
            refine V_ior eX2_areJoined_100 ?_
            refine V_istore4 rfl eX2_areJoined_101 rfl ?_
            refine V_iincN6 rfl eX2_areJoined_103 rfl ?_
            refine V_goto eX2_areJoined_106 ?_
            exact ih2 hklt _ _ (by rw [zfold, ← hm2]; unfold fJn; rw [if_pos ⟨c83, c91⟩])
  · refine V_iconst (v := 1) (by decide) eX2_areJoined_8 ?_
    exact V_zreturn eX2_areJoined_9 rfl (by decide) (Rv.i (by simp [zjoin, bI, zle_nlt.mp c5]))

theorem c_doubled {w : Wd} {h : Hp} {m : Nat} {ad : Nat → Nat} {A : Nat → Nat → Int32} {B : Nat → Nat → Int64} {F S : Nat → Int32} (mb : MB h m ad) {nv : Nat} (hnv : S 6 = nI nv) (hnv60 : nv ≤ 60) : Con w mX2_doubled cX2_doubled 5 0 0 [.ref m] (ms h A B F S) (Rv (.int (o_doubled S ).1) (ms h A B F (o_doubled S ).2)) := by
  refine Con.of (by decide +kernel) rfl rfl ?_
  show V w mX2_doubled cX2_doubled 5 0 0 _ 0 [some (.ref m), none, none, none, none] [] _
  refine V_iconst (v := 0) (by decide) eX2_doubled_0 ?_
  refine V_istore1 rfl eX2_doubled_1 rfl ?_
  refine V_iconst (v := 0) (by decide) eX2_doubled_2 ?_
  refine V_istore2 rfl eX2_doubled_3 rfl ?_
  refine zloop (P := fun i => ∀ (o3 o4 : Option Value) (set : Int32), set = zfold (fun i s => zfold (fDb S i) i s) i 0 → V w mX2_doubled cX2_doubled 5 0 0 (ms h A B F S) 4 [some (.ref m), some (.int set), some (.int (nI i)), o3, o4] [] _) nv (fun i hi ih o3 o4 set hs1 => ?_) 0 (Nat.zero_le _) none none 0 rfl
  refine V_iload2 eX2_doubled_4 ?_
  refine V_aload0 eX2_doubled_5 rfl ?_
  refine M_ga mb rfl eX2_doubled_6 fl_X2_8_2 ?_
  refine V_bipush (v := 6) (by decide) eX2_doubled_9 ?_
  refine M_sl (n := 6) mb rfl (by omega) hnv eX2_doubled_11 ?_
  refine V_if_icmpge eX2_doubled_12 (fun c12 => ?_) (fun c12 => ?_)
  · have e : i = nv := by have := nle c12 (by omega) (by omega); omega
    have hs := sn_of hnv (by omega)
    refine V_iload1 eX2_doubled_134 ?_
    exact V_ireturn eX2_doubled_135 rfl (Rv.p (by rw [o_doubled, hs, hs1, e]))
  · have hilt := nnle c12 (by omega) (by omega)
    refine V_iconst (v := 0) (by decide) eX2_doubled_15 ?_
    refine V_istore3 rfl eX2_doubled_16 rfl ?_
    obtain ⟨s0, hs0⟩ : ∃ s0, s0 = set := ⟨_, rfl⟩
    rw [← hs0]
    refine zloop (P := fun k => ∀ (o4 : Option Value) (set : Int32), set = zfold (fDb S i) k s0 → V w mX2_doubled cX2_doubled 5 0 0 (ms h A B F S) 17 [some (.ref m), some (.int set), some (.int (nI i)), some (.int (nI k)), o4] [] _) i (fun k hk ih2 o4 set hs2 => ?_) 0 (Nat.zero_le _) o4 s0 rfl
    refine V_iload3 eX2_doubled_17 ?_
    refine V_iload2 eX2_doubled_18 ?_
    refine V_if_icmpge eX2_doubled_19 (fun c19 => ?_) (fun c19 => ?_)
    · have hke : k = i := by have := nle c19 (by omega) (by omega); omega
      refine V_iincN2 rfl eX2_doubled_128 rfl ?_
      refine V_goto eX2_doubled_131 ?_
      exact ih hilt _ _ _ (by rw [zfold, ← hs1, ← hs0, hs2, hke])
    · have hklt := nnle c19 (by omega) (by omega)
      refine V_aload0 eX2_doubled_22 rfl ?_
      refine M_ga mb rfl eX2_doubled_23 fl_X2_8_2 ?_
      refine V_sipush (v := 11290) (by decide) eX2_doubled_26 ?_
      refine V_iload2 eX2_doubled_29 ?_
      refine V_iadd eX2_doubled_30 ?_
      refine M_sl (n := (11290 + i)) mb (zadd rfl rfl) (by omega) rfl eX2_doubled_31 ?_
      refine V_aload0 eX2_doubled_32 rfl ?_
      refine M_ga mb rfl eX2_doubled_33 fl_X2_8_2 ?_
      refine V_sipush (v := 11290) (by decide) eX2_doubled_36 ?_
      refine V_iload3 eX2_doubled_39 ?_
      refine V_iadd eX2_doubled_40 ?_
      refine M_sl (n := (11290 + k)) mb (zadd rfl rfl) (by omega) rfl eX2_doubled_41 ?_
      refine V_if_icmpne eX2_doubled_42 (fun c42 => ?_) (fun c42 => ?_)
      · refine V_iconst (v := 0) (by decide) eX2_doubled_95 ?_
        refine V_istore4 rfl eX2_doubled_96 rfl ?_
        refine V_iload1 eX2_doubled_98 ?_
        refine V_iload4 eX2_doubled_99 ?_
        refine V_ifeq eX2_doubled_101 (fun c101 => ?_) (fun c101 => absurd c101 (by decide))
        refine V_iconst (v := 0) (by decide) eX2_doubled_119 ?_
        refine V_ior eX2_doubled_120 ?_
        refine V_istore1 rfl eX2_doubled_121 rfl ?_
        refine V_iincN3 rfl eX2_doubled_122 rfl ?_
        refine V_goto eX2_doubled_125 ?_
        exact ih2 hklt _ _ (by rw [zfold, ← hs2]; unfold fDb; rw [if_neg (fun q => c42 q.1)])
      · refine V_aload0 eX2_doubled_45 rfl ?_
        refine M_ga mb rfl eX2_doubled_46 fl_X2_8_2 ?_
        refine V_sipush (v := 11350) (by decide) eX2_doubled_49 ?_
        refine V_iload2 eX2_doubled_52 ?_
        refine V_iadd eX2_doubled_53 ?_
        refine M_sl (n := (11350 + i)) mb (zadd rfl rfl) (by omega) rfl eX2_doubled_54 ?_
        refine V_aload0 eX2_doubled_55 rfl ?_
        refine M_ga mb rfl eX2_doubled_56 fl_X2_8_2 ?_
        refine V_sipush (v := 11350) (by decide) eX2_doubled_59 ?_
        refine V_iload3 eX2_doubled_62 ?_
        refine V_iadd eX2_doubled_63 ?_
        refine M_sl (n := (11350 + k)) mb (zadd rfl rfl) (by omega) rfl eX2_doubled_64 ?_
        refine V_if_icmpne eX2_doubled_65 (fun c65 => ?_) (fun c65 => ?_)
        · refine V_iconst (v := 0) (by decide) eX2_doubled_95 ?_
          refine V_istore4 rfl eX2_doubled_96 rfl ?_
          refine V_iload1 eX2_doubled_98 ?_
          refine V_iload4 eX2_doubled_99 ?_
          refine V_ifeq eX2_doubled_101 (fun c101 => ?_) (fun c101 => absurd c101 (by decide))
          refine V_iconst (v := 0) (by decide) eX2_doubled_119 ?_
          refine V_ior eX2_doubled_120 ?_
          refine V_istore1 rfl eX2_doubled_121 rfl ?_
          refine V_iincN3 rfl eX2_doubled_122 rfl ?_
          refine V_goto eX2_doubled_125 ?_
          exact ih2 hklt _ _ (by rw [zfold, ← hs2]; unfold fDb; rw [if_neg (fun q => c65 q.2.1)])
        · refine V_aload0 eX2_doubled_68 rfl ?_
          refine M_ga mb rfl eX2_doubled_69 fl_X2_8_2 ?_
          refine V_sipush (v := 11410) (by decide) eX2_doubled_72 ?_
          refine V_iload2 eX2_doubled_75 ?_
          refine V_iadd eX2_doubled_76 ?_
          refine M_sl (n := (11410 + i)) mb (zadd rfl rfl) (by omega) rfl eX2_doubled_77 ?_
          refine V_aload0 eX2_doubled_78 rfl ?_
          refine M_ga mb rfl eX2_doubled_79 fl_X2_8_2 ?_
          refine V_sipush (v := 11410) (by decide) eX2_doubled_82 ?_
          refine V_iload3 eX2_doubled_85 ?_
          refine V_iadd eX2_doubled_86 ?_
          refine M_sl (n := (11410 + k)) mb (zadd rfl rfl) (by omega) rfl eX2_doubled_87 ?_
          refine V_if_icmpeq eX2_doubled_88 (fun c88 => ?_) (fun c88 => ?_)
          · refine V_iconst (v := 0) (by decide) eX2_doubled_95 ?_
            refine V_istore4 rfl eX2_doubled_96 rfl ?_
            refine V_iload1 eX2_doubled_98 ?_
            refine V_iload4 eX2_doubled_99 ?_
            refine V_ifeq eX2_doubled_101 (fun c101 => ?_) (fun c101 => absurd c101 (by decide))
            refine V_iconst (v := 0) (by decide) eX2_doubled_119 ?_
            refine V_ior eX2_doubled_120 ?_
            refine V_istore1 rfl eX2_doubled_121 rfl ?_
            refine V_iincN3 rfl eX2_doubled_122 rfl ?_
            refine V_goto eX2_doubled_125 ?_
            exact ih2 hklt _ _ (by rw [zfold, ← hs2]; unfold fDb; rw [if_neg (fun q => q.2.2 c88)])
          · refine V_iconst (v := 1) (by decide) eX2_doubled_91 ?_
            refine V_goto eX2_doubled_92 ?_
            refine V_istore4 rfl eX2_doubled_96 rfl ?_
            refine V_iload1 eX2_doubled_98 ?_
            refine V_iload4 eX2_doubled_99 ?_
            refine V_ifeq eX2_doubled_101 (fun c101 => absurd c101 (by decide)) (fun c101 => ?_)
            refine V_iconst (v := 1) (by decide) eX2_doubled_104 ?_
            refine V_aload0 eX2_doubled_105 rfl ?_
            refine M_ga mb rfl eX2_doubled_106 fl_X2_8_2 ?_
            refine V_sipush (v := 11290) (by decide) eX2_doubled_109 ?_
            refine V_iload2 eX2_doubled_112 ?_
            refine V_iadd eX2_doubled_113 ?_
            refine M_sl (n := (11290 + i)) mb (zadd rfl rfl) (by omega) rfl eX2_doubled_114 ?_
            refine V_ishl eX2_doubled_115 ?_
            refine V_goto eX2_doubled_116 ?_
            refine V_ior eX2_doubled_120 ?_
            refine V_istore1 rfl eX2_doubled_121 rfl ?_
            refine V_iincN3 rfl eX2_doubled_122 rfl ?_
            refine V_goto eX2_doubled_125 ?_
            exact ih2 hklt _ _ (by rw [zfold, ← hs2]; unfold fDb; rw [if_pos ⟨c42, c65, c88⟩])

theorem c_meet {w : Wd} {h : Hp} {m : Nat} {ad : Nat → Nat} {A : Nat → Nat → Int32} {B : Nat → Nat → Int64} {F S : Nat → Int32} (mb : MB h m ad) {np : Nat} (hnp : S 2 = nI np) (hnp60 : np ≤ 60) : Con w mX2_meet cX2_meet 5 0 0 [.ref m] (ms h A B F S) (Rv (.int (o_meet S ).1) (ms h A B F (o_meet S ).2)) := by
  refine Con.of (by decide +kernel) rfl rfl ?_
  show V w mX2_meet cX2_meet 5 0 0 _ 0 [some (.ref m), none, none, none, none] [] _
  refine V_iconst (v := 0) (by decide) eX2_meet_0 ?_
  refine V_istore1 rfl eX2_meet_1 rfl ?_
  refine V_iconst (v := 0) (by decide) eX2_meet_2 ?_
  refine V_istore2 rfl eX2_meet_3 rfl ?_
  refine V_iconst (v := 0) (by decide) eX2_meet_4 ?_
  refine V_istore3 rfl eX2_meet_5 rfl ?_
  refine zloop (P := fun i => ∀ (o4 : Option Value) (x y : Int32), x = zfold (fMt S 0) i 0 → y = zfold (fMt S 1) i 0 → V w mX2_meet cX2_meet 5 0 0 (ms h A B F S) 6 [some (.ref m), some (.int x), some (.int y), some (.int (nI i)), o4] [] _) np (fun i hi ih o4 x y ha hb => ?_) 0 (Nat.zero_le _) none 0 0 rfl rfl
  refine V_iload3 eX2_meet_6 ?_
  refine V_aload0 eX2_meet_7 rfl ?_
  refine M_ga mb rfl eX2_meet_8 fl_X2_8_2 ?_
  refine V_iconst (v := 2) (by decide) eX2_meet_11 ?_
  refine M_sl (n := 2) mb rfl (by omega) hnp eX2_meet_12 ?_
  refine V_if_icmpge eX2_meet_13 (fun c13 => ?_) (fun c13 => ?_)
  · have e : i = np := by have := nle c13 (by omega) (by omega); omega
    have hs := sn_of hnp (by omega)
    refine V_iload1 eX2_meet_115 ?_
    refine V_iload2 eX2_meet_116 ?_
    refine V_iand eX2_meet_117 ?_
    exact V_ireturn eX2_meet_118 rfl (Rv.p (by rw [o_meet, hs, ha, hb, e]))
  · have hlt := nnle c13 (by omega) (by omega)
    refine V_aload0 eX2_meet_16 rfl ?_
    refine V_iload3 eX2_meet_17 ?_
    refine M_call mb eX2_meet_18 lmX2_isGranted q2230 q2232 rfl qs82 (c_isGranted mb (p := i) (by omega)) rfl rfl rfl rfl ?_
    refine V_ifeq eX2_meet_21 (fun c21 => ?_) (fun c21 => ?_)
    · have hd : dn3 S i = false := by rw [dn3, bI_0.mp c21]; rfl
      refine V_iincN3 rfl eX2_meet_109 rfl ?_
      refine V_goto eX2_meet_112 ?_
      exact ih hlt _ _ _ (by rw [zfold, ← ha, fMt]; rw [if_neg (by rw [hd]; decide)]) (by rw [zfold, ← hb, fMt]; rw [if_neg (by rw [hd]; decide)])
    · refine V_aload0 eX2_meet_24 rfl ?_
      refine M_ga mb rfl eX2_meet_25 fl_X2_8_2 ?_
      refine V_sipush (v := 970) (by decide) eX2_meet_28 ?_
      refine V_iload3 eX2_meet_31 ?_
      refine V_iadd eX2_meet_32 ?_
      refine M_sl (n := (970 + i)) mb (zadd rfl rfl) (by omega) rfl eX2_meet_33 ?_
      refine V_ifne eX2_meet_34 (fun c34 => ?_) (fun c34 => ?_)
      · have hd : dn3 S i = false := by simp [dn3, c34]
        refine V_iincN3 rfl eX2_meet_109 rfl ?_
        refine V_goto eX2_meet_112 ?_
        exact ih hlt _ _ _ (by rw [zfold, ← ha, fMt]; rw [if_neg (by rw [hd]; decide)]) (by rw [zfold, ← hb, fMt]; rw [if_neg (by rw [hd]; decide)])
      · have hd : dn3 S i = true := by rw [dn3, bI_n0.mp c21]; simp [c34]
        refine V_iconst (v := 1) (by decide) eX2_meet_37 ?_
        refine V_aload0 eX2_meet_38 rfl ?_
        refine M_ga mb rfl eX2_meet_39 fl_X2_8_2 ?_
        refine V_sipush (v := 550) (by decide) eX2_meet_42 ?_
        refine V_iload3 eX2_meet_45 ?_
        refine V_iadd eX2_meet_46 ?_
        refine M_sl (n := (550 + i)) mb (zadd rfl rfl) (by omega) rfl eX2_meet_47 ?_
        refine V_ishl eX2_meet_48 ?_
        refine V_iconst (v := 1) (by decide) eX2_meet_49 ?_
        refine V_aload0 eX2_meet_50 rfl ?_
        refine M_ga mb rfl eX2_meet_51 fl_X2_8_2 ?_
        refine V_sipush (v := 610) (by decide) eX2_meet_54 ?_
        refine V_iload3 eX2_meet_57 ?_
        refine V_iadd eX2_meet_58 ?_
        refine M_sl (n := (610 + i)) mb (zadd rfl rfl) (by omega) rfl eX2_meet_59 ?_
        refine V_ishl eX2_meet_60 ?_
        refine V_ior eX2_meet_61 ?_
        have he : zends S i = (1 : Int32) <<< (S (550 + i) &&& 31) ||| (1 : Int32) <<< (S (610 + i) &&& 31) := rfl
        rw [← he]
        refine V_istore4 rfl eX2_meet_62 rfl ?_
        refine V_iload1 eX2_meet_64 ?_
        refine V_aload0 eX2_meet_65 rfl ?_
        refine M_ga mb rfl eX2_meet_66 fl_X2_8_2 ?_
        refine V_sipush (v := 670) (by decide) eX2_meet_69 ?_
        refine V_iload3 eX2_meet_72 ?_
        refine V_iadd eX2_meet_73 ?_
        refine M_sl (n := (670 + i)) mb (zadd rfl rfl) (by omega) rfl eX2_meet_74 ?_
        refine V_ifne eX2_meet_75 (fun c75 => ?_) (fun c75 => ?_)
        · refine V_iconst (v := 0) (by decide) eX2_meet_83 ?_
          refine V_ior eX2_meet_84 ?_
          refine V_istore1 rfl eX2_meet_85 rfl ?_
          refine V_iload2 eX2_meet_86 ?_
          refine V_aload0 eX2_meet_87 rfl ?_
          refine M_ga mb rfl eX2_meet_88 fl_X2_8_2 ?_
          refine V_sipush (v := 670) (by decide) eX2_meet_91 ?_
          refine V_iload3 eX2_meet_94 ?_
          refine V_iadd eX2_meet_95 ?_
          refine M_sl (n := (670 + i)) mb (zadd rfl rfl) (by omega) rfl eX2_meet_96 ?_
          refine V_iconst (v := 1) (by decide) eX2_meet_97 ?_
          refine V_if_icmpne eX2_meet_98 (fun c98 => ?_) (fun c98 => ?_)
          · refine V_iconst (v := 0) (by decide) eX2_meet_106 ?_
            refine V_ior eX2_meet_107 ?_
            refine V_istore2 rfl eX2_meet_108 rfl ?_
            refine V_iincN3 rfl eX2_meet_109 rfl ?_
            refine V_goto eX2_meet_112 ?_
            exact ih hlt _ _ _ (by rw [zfold, ← ha, fMt]; rw [if_pos hd]; simp [c75]) (by rw [zfold, ← hb, fMt]; rw [if_pos hd]; simp [c98])
          · refine V_iload4 eX2_meet_101 ?_
            refine V_goto eX2_meet_103 ?_
            refine V_ior eX2_meet_107 ?_
            refine V_istore2 rfl eX2_meet_108 rfl ?_
            refine V_iincN3 rfl eX2_meet_109 rfl ?_
            refine V_goto eX2_meet_112 ?_
            exact ih hlt _ _ _ (by rw [zfold, ← ha, fMt]; rw [if_pos hd]; simp [c75]) (by rw [zfold, ← hb, fMt]; rw [if_pos hd]; simp [c98])
        · refine V_iload4 eX2_meet_78 ?_
          refine V_goto eX2_meet_80 ?_
          refine V_ior eX2_meet_84 ?_
          refine V_istore1 rfl eX2_meet_85 rfl ?_
          refine V_iload2 eX2_meet_86 ?_
          refine V_aload0 eX2_meet_87 rfl ?_
          refine M_ga mb rfl eX2_meet_88 fl_X2_8_2 ?_
          refine V_sipush (v := 670) (by decide) eX2_meet_91 ?_
          refine V_iload3 eX2_meet_94 ?_
          refine V_iadd eX2_meet_95 ?_
          refine M_sl (n := (670 + i)) mb (zadd rfl rfl) (by omega) rfl eX2_meet_96 ?_
          refine V_iconst (v := 1) (by decide) eX2_meet_97 ?_
          refine V_if_icmpne eX2_meet_98 (fun c98 => ?_) (fun c98 => ?_)
          · refine V_iconst (v := 0) (by decide) eX2_meet_106 ?_
            refine V_ior eX2_meet_107 ?_
            refine V_istore2 rfl eX2_meet_108 rfl ?_
            refine V_iincN3 rfl eX2_meet_109 rfl ?_
            refine V_goto eX2_meet_112 ?_
            exact ih hlt _ _ _ (by rw [zfold, ← ha, fMt]; rw [if_pos hd]; simp [c75]) (by rw [zfold, ← hb, fMt]; rw [if_pos hd]; simp [c98])
          · refine V_iload4 eX2_meet_101 ?_
            refine V_goto eX2_meet_103 ?_
            refine V_ior eX2_meet_107 ?_
            refine V_istore2 rfl eX2_meet_108 rfl ?_
            refine V_iincN3 rfl eX2_meet_109 rfl ?_
            refine V_goto eX2_meet_112 ?_
            exact ih hlt _ _ _ (by rw [zfold, ← ha, fMt]; rw [if_pos hd]; simp [c75]) (by rw [zfold, ← hb, fMt]; rw [if_pos hd]; simp [c98])

theorem va_up_id {α : Type} (f : Nat → α) (k : Nat) : va_up f k (f k) = f := by
  funext j
  unfold va_up
  split
  · next q => rw [q]
  · rfl
def o_image (S : Nat → Int32) : Int32 := S 0
theorem zcp_all {f g : Nat → Int32} {n j : Nat} (h : j < n) : zcp f g n j = g j := by unfold zcp; rw [if_pos h]
theorem c_image {w : Wd} {h : Hp} {m : Nat} {ad : Nat → Nat} {A : Nat → Nat → Int32} {B : Nat → Nat → Int64} {F S : Nat → Int32} (mb : MB h m ad) : Con w mX2_image cX2_image 5 0 0 [.ref m] (ms h A B F S) (Rv (.int (S 0)) (ms h (va_up A 2 (zcp (A 2) S 83840)) B (va_up F 3 1) S)) := by
  refine Con.of (by decide +kernel) rfl rfl ?_
  show V w mX2_image cX2_image 5 0 0 _ 0 [some (.ref m), none] [] _
  refine V_iconst (v := 0) (by decide) eX2_image_0 ?_
  refine V_istore1 rfl eX2_image_1 rfl ?_
  have e0 : ms h A B F S = ms h (va_up A 2 (zcp (A 2) S 0)) B F S := by rw [zcp_0, va_up_id]
  rw [e0]
  refine zloop (P := fun i => V w mX2_image cX2_image 5 0 0 (ms h (va_up A 2 (zcp (A 2) S i)) B F S) 2 [some (.ref m), some (.int (nI i))] [] _) 83840 (fun i hi ih => ?_) 0 (Nat.zero_le _)
  refine V_iload1 eX2_image_2 ?_
  refine V_ldc (v := 83840) eX2_image_3 q1895 ?_
  refine V_if_icmpge eX2_image_5 (fun c5 => ?_) (fun c5 => ?_)
  · have e : i = 83840 := by have := nle (a := 83840) c5 (by omega) (by omega); omega
    subst e
    refine V_aload0 eX2_image_26 rfl ?_
    refine V_iconst (v := 1) (by decide) eX2_image_27 ?_
    refine M_pz mb (Or.inl rfl) rfl (by decide) eX2_image_28 fl_X2_280_2 ?_
    refine V_aload0 eX2_image_31 rfl ?_
    refine M_ga mb rfl eX2_image_32 fl_X2_8_2 ?_
    refine V_iconst (v := 0) (by decide) eX2_image_35 ?_
    refine M_sl (n := 0) mb rfl (by omega) rfl eX2_image_36 ?_
    exact V_ireturn eX2_image_37 rfl (Rv.i (rfl))
  · have hlt := nnle (a := 83840) c5 (by omega) (by omega)
    refine V_aload0 eX2_image_8 rfl ?_
    refine M_ga mb rfl eX2_image_9 fl_X2_14_2 ?_
    refine V_iload1 eX2_image_12 ?_
    refine V_aload0 eX2_image_13 rfl ?_
    refine M_ga mb rfl eX2_image_14 fl_X2_8_2 ?_
    refine V_iload1 eX2_image_17 ?_
    refine M_sl (n := i) mb rfl (by omega) rfl eX2_image_18 ?_
    refine M_as (j := 2) (n := i) mb rfl (by decide) rfl (by show _ < _; first | decide | (simp only [mlen]; omega)) eX2_image_19 ?_
    refine V_iincN1 rfl eX2_image_20 rfl ?_
    refine V_goto eX2_image_23 ?_
    rw [va_up_self, zcp_s, bx_uu]
    exact ih hlt

def o_undo (S I : Nat → Int32) (has : Int32) : Int32 × (Nat → Int32) := if has = 0 then (-3, S) else (I 0, zcp S I 83840)
theorem c_undo {w : Wd} {h : Hp} {m : Nat} {ad : Nat → Nat} {A : Nat → Nat → Int32} {B : Nat → Nat → Int64} {F S : Nat → Int32} (mb : MB h m ad) : Con w mX2_undo cX2_undo 5 0 0 [.ref m] (ms h A B F S) (Rv (.int (o_undo S (A 2) (F 3)).1) (ms h A B F (o_undo S (A 2) (F 3)).2)) := by
  refine Con.of (by decide +kernel) rfl rfl ?_
  show V w mX2_undo cX2_undo 5 0 0 _ 0 [some (.ref m), none] [] _
  refine V_aload0 eX2_undo_0 rfl ?_
  refine M_gi mb (Or.inr rfl) rfl eX2_undo_1 fl_X2_280_2 ?_
  refine V_ifne eX2_undo_4 (fun c4 => ?_) (fun c4 => ?_)
  · refine V_iconst (v := 0) (by decide) eX2_undo_10 ?_
    refine V_istore1 rfl eX2_undo_11 rfl ?_
    have e0 : ms h A B F S = ms h A B F (zcp S (A 2) 0) := by rw [zcp_0]
    rw [e0]
    refine zloop (P := fun i => V w mX2_undo cX2_undo 5 0 0 (ms h A B F (zcp S (A 2) i)) 12 [some (.ref m), some (.int (nI i))] [] _) 83840 (fun i hi ih => ?_) 0 (Nat.zero_le _)
    refine V_iload1 eX2_undo_12 ?_
    refine V_ldc (v := 83840) eX2_undo_13 q1895 ?_
    refine V_if_icmpge eX2_undo_15 (fun c15 => ?_) (fun c15 => ?_)
    · have e : i = 83840 := by have := nle (a := 83840) c15 (by omega) (by omega); omega
      subst e
      refine V_aload0 eX2_undo_36 rfl ?_
      refine M_ga mb rfl eX2_undo_37 fl_X2_8_2 ?_
      refine V_iconst (v := 0) (by decide) eX2_undo_40 ?_
      refine M_sl (n := 0) mb rfl (by omega) (zcp_all (by omega)) eX2_undo_41 ?_
      exact V_ireturn eX2_undo_42 rfl (Rv.p (by simp [o_undo, c4]))
    · have hlt := nnle (a := 83840) c15 (by omega) (by omega)
      refine V_aload0 eX2_undo_18 rfl ?_
      refine M_ga mb rfl eX2_undo_19 fl_X2_8_2 ?_
      refine V_iload1 eX2_undo_22 ?_
      refine V_aload0 eX2_undo_23 rfl ?_
      refine M_ga mb rfl eX2_undo_24 fl_X2_14_2 ?_
      refine V_iload1 eX2_undo_27 ?_
      refine M_al (j := 2) (n := i) mb rfl (by decide) rfl (by show _ < _; first | decide | (simp only [mlen]; omega)) rfl eX2_undo_28 ?_
      refine M_ss (n := i) mb rfl (by omega) eX2_undo_29 ?_
      refine V_iincN1 rfl eX2_undo_30 rfl ?_
      refine V_goto eX2_undo_33 ?_
      rw [zcp_s]
      exact ih hlt
  · refine V_bipush (v := -3) (by decide) eX2_undo_7 ?_
    exact V_ireturn eX2_undo_9 rfl (Rv.p (by simp [o_undo, c4]))

