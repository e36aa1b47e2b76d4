/-! locals may be forgotten -/
def zle (a b : List (Option Value)) : Prop := ∀ (i : Nat) (v : Value), a[i]? = some (some v) → b[i]? = some (some v)
theorem zle_0 {b : List (Option Value)} : zle [] b := fun i v h => by simp at h
theorem zle_c {a b : List (Option Value)} {o : Option Value} (h : zle a b) : zle (o :: a) (o :: b) := fun i v hi => by
  cases i with
  | zero => simpa using hi
  | succ i => simpa using h i v (by simpa using hi)
theorem zle_n {a b : List (Option Value)} {o : Option Value} (h : zle a b) : zle (none :: a) (o :: b) := fun i v hi => by
  cases i with
  | zero => simp at hi
  | succ i => simpa using h i v (by simpa using hi)
theorem V.le {w : Wd} {mi : Mi} {cc : ByteArray} {L cb sb : Nat} {h : Hp} {pc : Nat} {ls ls' : List (Option Value)} {st : List Value} {Q : Outcome → Hp → Prop} (hs : zle ls' ls) (kk : V w mi cc L cb sb h pc ls' st Q) : V w mi cc L cb sb h pc ls st Q := V.locs hs kk
theorem zdn (x : Int32) (j : Nat) : x - nI j + (-1) = x - nI (j + 1) := by rw [← nI_1]; grind
theorem zsub0 (c : Nat) : nI (c + 1) - 1 = nI c - nI 0 := by rw [nI_pred, nI_0]; grind
theorem zinL {v lo hi : Int32} {l m : Nat} (h : ¬ zin v lo hi = 0) (hl : lo = nI l) (hm : hi = nI m) (hl2 : l < 2 ^ 31) (hm2 : m < 2 ^ 31) : ∃ k, l ≤ k ∧ k ≤ m ∧ v = nI k := by
  obtain ⟨h1, h2⟩ := zin_n0.mp h
  subst hl; subst hm
  have h0 : ¬ v < 0 := by
    intro q
    have := nI_pos' hl2
    grind
  obtain ⟨k, hk, rfl⟩ := nI_of h0
  exact ⟨k, nle h1 hl2 hk, nle h2 hk hm2, rfl⟩
theorem zneg {a b : Nat} (ha : a < 2 ^ 30) (h : ¬ nI a - nI b < 0) (hb : b < 2 ^ 30) : b ≤ a := by
  rcases Nat.lt_or_ge a b with q | q
  · exact absurd (pk_sneg hb q) h
  · exact q
theorem znneg {a b : Nat} (ha : a < 2 ^ 30) (h : nI a - nI b < 0) : a < b := by
  rcases Nat.lt_or_ge a b with q | q
  · exact q
  · rw [pk_sub q] at h
    exact absurd h (nI_pos (by omega))
/-! the tape -/
def fFd (w : Int64) (c : Int32) : Nat → (Nat → Int32) → (Nat → Int32) := fun j T => va_up (va_up T (11150 + sn T 4) ((w >>> ((8 * (c - nI j)).toInt64 &&& 63) &&& 255).toInt32)) 4 (T 4 + 1)
theorem fFd_4 {S : Nat → Int32} {w : Int64} {c : Int32} {t : Nat} (h : S 4 = nI t) : ∀ j, zfold (fFd w c) j S 4 = nI (t + j)
  | 0 => h
  | j + 1 => by
    show fFd w c j (zfold (fFd w c) j S) 4 = _
    unfold fFd
    rw [va_up_self]
    exact (congrArg (· + 1) (fFd_4 h j)).trans (nI_1 _)
def o_feed (S : Nat → Int32) (w : Int64) (n : Int32) : Int32 × (Nat → Int32) :=
  if zin n 1 8 = 0 then (-2, S) else if ¬ S 4 + n ≤ 140 then (-4, S) else (zfold (fFd w (n - 1)) n.toNatClampNeg S 4, zfold (fFd w (n - 1)) n.toNatClampNeg S)
theorem c_feed {w : Wd} {h : Hp} {m : Nat} {ad : Nat → Nat} {A : Nat → Nat → Int32} {B : Nat → Nat → Int64} {F S : Nat → Int32} (mb : MB h m ad) (wd : Int64) (n : Int32) {t : Nat} (ht : S 4 = nI t) (ht2 : t ≤ 140) : Con w mX2_feed cX2_feed 5 0 0 [.ref m, .long wd, .int n] (ms h A B F S) (Rv (.int (o_feed S wd n).1) (ms h A B F (o_feed S wd n).2)) := by
  refine Con.of (by decide +kernel) rfl rfl ?_
  show V w mX2_feed cX2_feed 5 0 0 _ 0 [some (.ref m), some (.long wd), none, some (.int n), none] [] _
  refine V_iload3 eX2_feed_0 ?_
  refine V_iconst (v := 1) (by decide) eX2_feed_1 ?_
  refine V_bipush (v := 8) (by decide) eX2_feed_2 ?_
  refine C0_static eX2_feed_4 lmX2_in q1966 q1967 (c_in _ _ _ _) rfl rfl rfl rfl ?_
  refine V_ifne eX2_feed_7 (fun c7 => ?_) (fun c7 => ?_)
  · obtain ⟨c, hc1, hc2, rfl⟩ : ∃ c, 0 ≤ c ∧ c ≤ 7 ∧ n = nI (c + 1) := by
      obtain ⟨c, h1, h2, h3⟩ := zinL (l := 1) (m := 8) c7 rfl rfl (by decide) (by decide)
      exact ⟨c - 1, by omega, by omega, by rw [h3]; congr 1; omega⟩
    have hcl : (nI (c + 1)).toNatClampNeg = c + 1 := nI_clamp (by omega)
    refine V_aload0 eX2_feed_13 rfl ?_
    refine M_ga mb rfl eX2_feed_14 fl_X2_8_2 ?_
    refine V_iconst (v := 4) (by decide) eX2_feed_17 ?_
    refine M_sl (n := 4) mb rfl (by omega) ht eX2_feed_18 ?_
    refine V_iload3 eX2_feed_19 ?_
    refine V_iadd eX2_feed_20 ?_
    refine V_sipush (v := 140) (by decide) eX2_feed_21 ?_
    refine V_if_icmple eX2_feed_24 (fun c24 => ?_) (fun c24 => ?_)
    · have h24 : t + (c + 1) ≤ 140 := nle (a := t + (c + 1)) (b := 140) (by rw [← nI_add]; exact c24) (by omega) (by omega)
      refine V_iload3 eX2_feed_30 ?_
      refine V_iconst (v := 1) (by decide) eX2_feed_31 ?_
      refine V_isub eX2_feed_32 ?_
      rw [zsub0]
      refine V_istore4 rfl eX2_feed_33 rfl ?_
      refine V.le (zle_c (zle_c (zle_n (zle_c (zle_c zle_0))))) (zloop (P := fun j => ∀ T, T = zfold (fFd wd (nI c)) j S → V w mX2_feed cX2_feed 5 0 0 (ms h A B F T) 35 [some (.ref m), some (.long wd), none, some (.int (nI (c + 1))), some (.int (nI c - nI j))] [] _) (c + 1) (fun j hj ih T hq => ?_) 0 (Nat.zero_le _) _ rfl)
      refine V_iload4 eX2_feed_35 ?_
      refine V_iflt eX2_feed_37 (fun c37 => ?_) (fun c37 => ?_)
      · have ej : j = c + 1 := by have := znneg (a := c) (b := j) (by omega) c37; omega
        rw [ej] at hq
        refine V_aload0 eX2_feed_83 rfl ?_
        refine M_ga mb rfl eX2_feed_84 fl_X2_8_2 ?_
        refine V_iconst (v := 4) (by decide) eX2_feed_87 ?_
        refine M_sl (n := 4) mb rfl (by omega) rfl eX2_feed_88 ?_
        exact V_ireturn eX2_feed_89 rfl (Rv.p (by rw [o_feed, if_neg c7, if_neg (fun q => q (by rw [ht]; exact c24)), nI_pred, hcl, ← hq]))
      · have hlt : j < c + 1 := by have := zneg (a := c) (b := j) (by omega) c37 (by omega); omega
        have hT4 : T 4 = nI (t + j) := by rw [hq]; exact fFd_4 ht j
        refine V_aload0 eX2_feed_40 rfl ?_
        refine M_ga mb rfl eX2_feed_41 fl_X2_8_2 ?_
        refine V_sipush (v := 11150) (by decide) eX2_feed_44 ?_
        refine V_aload0 eX2_feed_47 rfl ?_
        refine M_ga mb rfl eX2_feed_48 fl_X2_8_2 ?_
        refine V_iconst (v := 4) (by decide) eX2_feed_51 ?_
        refine M_sl (n := 4) mb rfl (by omega) hT4 eX2_feed_52 ?_
        refine V_iadd eX2_feed_53 ?_
        refine V_lload1 eX2_feed_54 ?_
        refine V_bipush (v := 8) (by decide) eX2_feed_55 ?_
        refine V_iload4 eX2_feed_57 ?_
        refine V_imul eX2_feed_59 ?_
        refine V_lshr eX2_feed_60 ?_
        refine V_ldc2_w eX2_feed_61 q1989 ?_
        refine V_land eX2_feed_64 ?_
        refine V_l2i eX2_feed_65 ?_
        refine M_ss (n := (11150 + (t + j))) mb (zadd rfl rfl) (by omega) eX2_feed_66 ?_
        refine V_aload0 eX2_feed_67 rfl ?_
        refine M_ga mb rfl eX2_feed_68 fl_X2_8_2 ?_
        refine V_iconst (v := 4) (by decide) eX2_feed_71 ?_
        refine V_dup2 rfl rfl eX2_feed_72 ?_
        refine M_sl (n := 4) mb rfl (by omega) (rdn (by omega) hT4) eX2_feed_73 ?_
        refine V_iconst (v := 1) (by decide) eX2_feed_74 ?_
        refine V_iadd eX2_feed_75 ?_
        refine M_ss (n := 4) mb rfl (by omega) eX2_feed_76 ?_
        refine V_iinc4 rfl eX2_feed_77 rfl (v := -1) (by decide) ?_
        rw [zdn, nI_1]
        refine V_goto eX2_feed_80 ?_
        exact V.le (zle_c (zle_c (zle_n (zle_c (zle_c zle_0))))) (ih hlt _ (by rw [zfold, ← hq, fFd, sn_of hT4 (by omega), hT4, nI_1]))
    · refine V_bipush (v := -4) (by decide) eX2_feed_27 ?_
      exact V_ireturn eX2_feed_29 rfl (Rv.p (by clear mb; grind [o_feed]))
  · refine V_bipush (v := -2) (by decide) eX2_feed_10 ?_
    exact V_ireturn eX2_feed_12 rfl (Rv.p (by clear mb; grind [o_feed]))

def fSh (i : Nat) (n : Int32) : Nat → (Nat → Int32) → (Nat → Int32) := fun k T => va_up T (11530 + 9 * i + k) (if k = 8 then n else 0)
def o_scheme (S : Nat → Int32) (a b g n : Int32) : Int32 × (Nat → Int32) :=
  if zin a 0 (S 1 - 1) = 0 ∨ zin b 0 (S 1 - 1) = 0 then (-1, S) else if a = b ∨ zin g 0 1 = 0 ∨ zin n 1 99 = 0 then (-2, S) else if S 2 = 60 ∨ S 9 = 12 then (-4, S) else
  (S 2, zfold (fSh (sn S 9) n) 9 (va_up (va_up (va_up (o_paper (va_up S 9 (S 9 + 1)) 1 (-1) a b g n).2 (11490 + sn S 9) (S 2)) (11502 + sn S 9) 0) (11514 + sn S 9) (-5)))
theorem c_scheme {w : Wd} {h : Hp} {m : Nat} {ad : Nat → Nat} {A : Nat → Nat → Int32} {B : Nat → Nat → Int64} {F S : Nat → Int32} (mb : MB h m ad) (a : Int32) (b : Int32) (g : Int32) (n : Int32) {np : Nat} (hnp : S 2 = nI np) (hnp60 : np ≤ 60) {ns : Nat} (hns : S 9 = nI ns) (hns12 : ns ≤ 12) : Con w mX2_scheme cX2_scheme 5 0 0 [.ref m, .int a, .int b, .int g, .int n] (ms h A B F S) (Rv (.int (o_scheme S a b g n).1) (ms h A B F (o_scheme S a b g n).2)) := by
  refine Con.of (by decide +kernel) rfl rfl ?_
  show V w mX2_scheme cX2_scheme 5 0 0 _ 0 [some (.ref m), some (.int a), some (.int b), some (.int g), some (.int n), none, none, none] [] _
  refine V_aload0 eX2_scheme_0 rfl ?_
  refine V_iload1 eX2_scheme_1 ?_
  refine M_call mb eX2_scheme_2 lmX2_isTown q2107 q2109 rfl qs65 (c_isTown mb _) rfl rfl rfl rfl ?_
  refine V_ifeq eX2_scheme_5 (fun c5 => ?_) (fun c5 => ?_)
  · refine V_iconst (v := -1) (by decide) eX2_scheme_16 ?_
    exact V_ireturn eX2_scheme_17 rfl (Rv.p (by clear mb; grind [o_scheme]))
  · refine V_aload0 eX2_scheme_8 rfl ?_
    refine V_iload2 eX2_scheme_9 ?_
    refine M_call mb eX2_scheme_10 lmX2_isTown q2107 q2109 rfl qs65 (c_isTown mb _) rfl rfl rfl rfl ?_
    refine V_ifne eX2_scheme_13 (fun c13 => ?_) (fun c13 => ?_)
    · refine V_iload1 eX2_scheme_18 ?_
      refine V_iload2 eX2_scheme_19 ?_
      refine V_if_icmpeq eX2_scheme_20 (fun c20 => ?_) (fun c20 => ?_)
      · refine V_bipush (v := -2) (by decide) eX2_scheme_43 ?_
        exact V_ireturn eX2_scheme_45 rfl (Rv.p (by clear mb; grind [o_scheme]))
      · refine V_iload3 eX2_scheme_23 ?_
        refine V_iconst (v := 0) (by decide) eX2_scheme_24 ?_
        refine V_iconst (v := 1) (by decide) eX2_scheme_25 ?_
        refine C0_static eX2_scheme_26 lmX2_in q1966 q1967 (c_in _ _ _ _) rfl rfl rfl rfl ?_
        refine V_ifeq eX2_scheme_29 (fun c29 => ?_) (fun c29 => ?_)
        · refine V_bipush (v := -2) (by decide) eX2_scheme_43 ?_
          exact V_ireturn eX2_scheme_45 rfl (Rv.p (by clear mb; grind [o_scheme]))
        · refine V_iload4 eX2_scheme_32 ?_
          refine V_iconst (v := 1) (by decide) eX2_scheme_34 ?_
          refine V_bipush (v := 99) (by decide) eX2_scheme_35 ?_
          refine C0_static eX2_scheme_37 lmX2_in q1966 q1967 (c_in _ _ _ _) rfl rfl rfl rfl ?_
          refine V_ifne eX2_scheme_40 (fun c40 => ?_) (fun c40 => ?_)
          · refine V_aload0 eX2_scheme_46 rfl ?_
            refine M_ga mb rfl eX2_scheme_47 fl_X2_8_2 ?_
            refine V_iconst (v := 2) (by decide) eX2_scheme_50 ?_
            refine M_sl (n := 2) mb rfl (by omega) hnp eX2_scheme_51 ?_
            refine V_bipush (v := 60) (by decide) eX2_scheme_52 ?_
            refine V_if_icmpeq eX2_scheme_54 (fun c54 => ?_) (fun c54 => ?_)
            · refine V_bipush (v := -4) (by decide) eX2_scheme_69 ?_
              exact V_ireturn eX2_scheme_71 rfl (Rv.p (by clear mb; grind [o_scheme]))
            · refine V_aload0 eX2_scheme_57 rfl ?_
              refine M_ga mb rfl eX2_scheme_58 fl_X2_8_2 ?_
              refine V_bipush (v := 9) (by decide) eX2_scheme_61 ?_
              refine M_sl (n := 9) mb rfl (by omega) hns eX2_scheme_63 ?_
              refine V_bipush (v := 12) (by decide) eX2_scheme_64 ?_
              refine V_if_icmpne eX2_scheme_66 (fun c66 => ?_) (fun c66 => ?_)
              · have hne : np ≠ 60 := fun q => c54 (by rw [q]; rfl)
                have hne2 : ns ≠ 12 := fun q => c66 (by rw [q]; rfl)
                have hs9 := sn_of hns (by omega)
                have hnp2 : va_up S 9 (nI ns + 1) 2 = nI np := rdn (by omega) hnp
                have hp1 : (o_paper (va_up S 9 (nI ns + 1)) 1 (-1) a b g n).1 = nI np := hnp2
                refine V_aload0 eX2_scheme_72 rfl ?_
                refine M_ga mb rfl eX2_scheme_73 fl_X2_8_2 ?_
                refine V_bipush (v := 9) (by decide) eX2_scheme_76 ?_
                refine M_sl (n := 9) mb rfl (by omega) hns eX2_scheme_78 ?_
                refine V_istore5 rfl eX2_scheme_79 rfl ?_
                refine V_aload0 eX2_scheme_81 rfl ?_
                refine M_ga mb rfl eX2_scheme_82 fl_X2_8_2 ?_
                refine V_bipush (v := 9) (by decide) eX2_scheme_85 ?_
                refine V_dup2 rfl rfl eX2_scheme_87 ?_
                refine M_sl (n := 9) mb rfl (by omega) hns eX2_scheme_88 ?_
                refine V_iconst (v := 1) (by decide) eX2_scheme_89 ?_
                refine V_iadd eX2_scheme_90 ?_
                refine M_ss (n := 9) mb rfl (by omega) eX2_scheme_91 ?_
                refine V_aload0 eX2_scheme_92 rfl ?_
                refine V_iconst (v := 1) (by decide) eX2_scheme_93 ?_
                refine V_iconst (v := -1) (by decide) eX2_scheme_94 ?_
                refine V_iload1 eX2_scheme_95 ?_
                refine V_iload2 eX2_scheme_96 ?_
                refine V_iload3 eX2_scheme_97 ?_
                refine V_iload4 eX2_scheme_98 ?_
                refine M_call mb eX2_scheme_100 lmX2_paper q2111 q2113 rfl qs66 (c_paper mb _ _ _ _ _ _ hnp2 (by omega)) rfl rfl rfl rfl ?_
                rw [hp1]
                refine V_istore6 rfl eX2_scheme_103 rfl ?_
                refine V_aload0 eX2_scheme_105 rfl ?_
                refine M_ga mb rfl eX2_scheme_106 fl_X2_8_2 ?_
                refine V_sipush (v := 11490) (by decide) eX2_scheme_109 ?_
                refine V_iload5 eX2_scheme_112 ?_
                refine V_iadd eX2_scheme_114 ?_
                refine V_iload6 eX2_scheme_115 ?_
                refine M_ss (n := (11490 + ns)) mb (zadd rfl rfl) (by omega) eX2_scheme_117 ?_
                refine V_aload0 eX2_scheme_118 rfl ?_
                refine M_ga mb rfl eX2_scheme_119 fl_X2_8_2 ?_
                refine V_sipush (v := 11502) (by decide) eX2_scheme_122 ?_
                refine V_iload5 eX2_scheme_125 ?_
                refine V_iadd eX2_scheme_127 ?_
                refine V_iconst (v := 0) (by decide) eX2_scheme_128 ?_
                refine M_ss (n := (11502 + ns)) mb (zadd rfl rfl) (by omega) eX2_scheme_129 ?_
                refine V_aload0 eX2_scheme_130 rfl ?_
                refine M_ga mb rfl eX2_scheme_131 fl_X2_8_2 ?_
                refine V_sipush (v := 11514) (by decide) eX2_scheme_134 ?_
                refine V_iload5 eX2_scheme_137 ?_
                refine V_iadd eX2_scheme_139 ?_
                refine V_bipush (v := -5) (by decide) eX2_scheme_140 ?_
                refine M_ss (n := (11514 + ns)) mb (zadd rfl rfl) (by omega) eX2_scheme_142 ?_
                refine V_iconst (v := 0) (by decide) eX2_scheme_143 ?_
                refine V_istore7 rfl eX2_scheme_144 rfl ?_
                refine V.le (zle_c (zle_c (zle_c (zle_c (zle_c (zle_c (zle_c (zle_c zle_0)))))))) (zloop (P := fun k => ∀ T, T = zfold (fSh ns n) k (va_up (va_up (va_up (o_paper (va_up S 9 (nI ns + 1)) 1 (-1) a b g n).2 (11490 + ns) (nI np)) (11502 + ns) 0) (11514 + ns) (-5)) → V w mX2_scheme cX2_scheme 5 0 0 (ms h A B F T) 146 [some (.ref m), some (.int a), some (.int b), some (.int g), some (.int n), some (.int (nI ns)), some (.int (nI np)), some (.int (nI k))] [] _) 9 (fun k hk ih T hq => ?_) 0 (Nat.zero_le _) _ rfl)
                refine V_iload7 eX2_scheme_146 ?_
                refine V_bipush (v := 9) (by decide) eX2_scheme_148 ?_
                refine V_if_icmpge eX2_scheme_150 (fun c150 => ?_) (fun c150 => ?_)
                · have ek : k = 9 := by have := nle (a := 9) c150 (by omega) (by omega); omega
                  refine V_iload6 eX2_scheme_189 ?_
                  exact V_ireturn eX2_scheme_191 rfl (Rv.p (by rw [ek] at hq; rw [o_scheme, if_neg (by simp [c5, c13]), if_neg (by simp [c20, c29, c40]), if_neg (by rw [hns, hnp]; simp [c54, c66]), hs9, hnp, hns, ← hq]))
                · have hlt := nnle (a := 9) c150 (by omega) (by omega)
                  refine V_aload0 eX2_scheme_153 rfl ?_
                  refine M_ga mb rfl eX2_scheme_154 fl_X2_8_2 ?_
                  refine V_sipush (v := 11530) (by decide) eX2_scheme_157 ?_
                  refine V_bipush (v := 9) (by decide) eX2_scheme_160 ?_
                  refine V_iload5 eX2_scheme_162 ?_
                  refine V_imul eX2_scheme_164 ?_
                  refine V_iadd eX2_scheme_165 ?_
                  refine V_iload7 eX2_scheme_166 ?_
                  refine V_iadd eX2_scheme_168 ?_
                  refine V_iload7 eX2_scheme_169 ?_
                  refine V_bipush (v := 8) (by decide) eX2_scheme_171 ?_
                  refine V_if_icmpne eX2_scheme_173 (fun c173 => ?_) (fun c173 => ?_)
                  · have hk8 : ¬ k = 8 := fun q => c173 (by rw [q]; rfl)
                    refine V_iconst (v := 0) (by decide) eX2_scheme_181 ?_
                    refine M_ss (n := ((11530 + (9 * ns)) + k)) mb (zadd (zadd rfl (zmul rfl rfl)) rfl) (by omega) eX2_scheme_182 ?_
                    refine V_iincN7 rfl eX2_scheme_183 rfl ?_
                    refine V_goto eX2_scheme_186 ?_
                    exact V.le (zle_c (zle_c (zle_c (zle_c (zle_c (zle_c (zle_c (zle_c zle_0)))))))) (ih hlt _ (by rw [zfold, ← hq, fSh]; simp [hk8]))
                  · have hk8 : k = 8 := neq (b := 8) c173 (by omega) (by omega)
                    refine V_iload4 eX2_scheme_176 ?_
                    refine V_goto eX2_scheme_178 ?_
                    refine M_ss (n := ((11530 + (9 * ns)) + k)) mb (zadd (zadd rfl (zmul rfl rfl)) rfl) (by omega) eX2_scheme_182 ?_
                    refine V_iincN7 rfl eX2_scheme_183 rfl ?_
                    refine V_goto eX2_scheme_186 ?_
                    exact V.le (zle_c (zle_c (zle_c (zle_c (zle_c (zle_c (zle_c (zle_c zle_0)))))))) (ih hlt _ (by rw [zfold, ← hq, fSh]; simp [hk8]))
              · refine V_bipush (v := -4) (by decide) eX2_scheme_69 ?_
                exact V_ireturn eX2_scheme_71 rfl (Rv.p (by clear mb; grind [o_scheme]))
          · refine V_bipush (v := -2) (by decide) eX2_scheme_43 ?_
            exact V_ireturn eX2_scheme_45 rfl (Rv.p (by clear mb; grind [o_scheme]))
    · refine V_iconst (v := -1) (by decide) eX2_scheme_16 ?_
      exact V_ireturn eX2_scheme_17 rfl (Rv.p (by clear mb; grind [o_scheme]))

