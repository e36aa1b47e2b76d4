theorem zfold_s {α : Type} (f : Nat → α → α) (n : Nat) (a : α) : zfold f (n + 1) a = f n (zfold f n a) := rfl
theorem ms_extA {h : Hp} {A A' : Nat → Nat → Int32} {B : Nat → Nat → Int64} {F S : Nat → Int32} (e : A = A') : ms h A B F S = ms h A' B F S := by rw [e]
theorem ms_extB {h : Hp} {A : Nat → Nat → Int32} {B B' : Nat → Nat → Int64} {F S : Nat → Int32} (e : B = B') : ms h A B F S = ms h A B' F S := by rw [e]
def K_canPay_10 (B : Nat → Nat → Int64) (a : Nat) : Nat → Int64 → Int64 := fun b q10 =>
    (q10 + (B 15 ((20 * b) + a)))
def o_canPay (B : Nat → Nat → Int64) (a : Nat) : Int64 :=
  let q10 := zfold (K_canPay_10 B a) 20 (B 17 a)
  if 0 ≤ (lg_cmp q10 (B 18 a)) then
    (B 18 a)
  else
    q10
theorem c_canPay {w : Wd} {h : Hp} {m : Nat} {ad : Nat → Nat} {A : Nat → Nat → Int32} {B : Nat → Nat → Int64} {F S : Nat → Int32} (mb : MB h m ad) (a : Nat) (ha : a < 20) : Con w mX2_canPay cX2_canPay 1 0 0 [.ref m, .int (nI a)] (ms h A B F S) (Rv (.long (o_canPay B a)) (ms h A B F S)) := by
  refine Con.of (by decide +kernel) rfl rfl ?_
  show V w mX2_canPay cX2_canPay 1 0 0 _ 0 [some (.ref m), some (.int (nI a)), none, none, none] [] _
  refine V_aload0 eX2_canPay_0 rfl ?_
  refine M_gb mb rfl eX2_canPay_1 fl_X2_42_2 ?_
  refine V_iload1 eX2_canPay_4 ?_
  refine M_bl (j := 17) (n := a) mb rfl rfl (by show _ < _; first | decide | (simp only [mlen]; omega)) (show _ = (B 17 a) from rfl) eX2_canPay_5 ?_
  refine V_lstore2 rfl eX2_canPay_6 rfl ?_
  refine V_iconst (v := 0) (by decide) eX2_canPay_7 ?_
  refine V_istore4 rfl eX2_canPay_8 rfl ?_
  refine V.le (zle_c (zle_c (zle_c (zle_n (zle_c zle_0))))) (zloop (P := fun b => ∀ q10 : Int64, q10 = zfold (K_canPay_10 B a) b (B 17 a) → V w mX2_canPay cX2_canPay 1 0 0 (ms h A B F S) 10 [some (.ref m), some (.int (nI a)), some (.long q10), none, some (.int (nI b))] [] _) 20 (fun b hb ih10 q10 hq10  => ?_) 0 (Nat.zero_le _) (B 17 a) rfl )
  refine V_iload4 eX2_canPay_10 ?_
  refine V_bipush (v := 20) (by decide) eX2_canPay_12 ?_
  refine V_if_icmpge eX2_canPay_14 (fun c14 => ?_) (fun c14 => ?_)
  · have e10 : b = 20 := by have := nle (a := 20) c14 (by omega) (by omega); omega
    rw [e10] at hq10
    refine V_lload2 eX2_canPay_38 ?_
    refine V_aload0 eX2_canPay_39 rfl ?_
    refine M_gb mb rfl eX2_canPay_40 fl_X2_45_2 ?_
    refine V_iload1 eX2_canPay_43 ?_
    refine M_bl (j := 18) (n := a) mb rfl rfl (by show _ < _; first | decide | (simp only [mlen]; omega)) (show _ = (B 18 a) from rfl) eX2_canPay_44 ?_
    refine V_lcmp eX2_canPay_45 ?_
    refine V_ifge eX2_canPay_46 (fun c46 => ?_) (fun c46 => ?_)
    · refine V_aload0 eX2_canPay_53 rfl ?_
      refine M_gb mb rfl eX2_canPay_54 fl_X2_45_2 ?_
      refine V_iload1 eX2_canPay_57 ?_
      refine M_bl (j := 18) (n := a) mb rfl rfl (by show _ < _; first | decide | (simp only [mlen]; omega)) (show _ = (B 18 a) from rfl) eX2_canPay_58 ?_
      have hE : (B 18 a) = o_canPay B a := by simp only [o_canPay, ← hq10, if_pos c46]
      exact V_lreturn eX2_canPay_59 rfl (by rw [← hE]; exact ⟨rfl, rfl⟩)
    · refine V_lload2 eX2_canPay_49 ?_
      refine V_goto eX2_canPay_50 ?_
      have hE : q10 = o_canPay B a := by simp only [o_canPay, ← hq10, if_neg c46]
      exact V_lreturn eX2_canPay_59 rfl (by rw [← hE]; exact ⟨rfl, rfl⟩)
  · have hl10 : b < 20 := by have := nnle (a := 20) c14 (by omega) (by omega); omega
    refine V_lload2 eX2_canPay_17 ?_
    refine V_aload0 eX2_canPay_18 rfl ?_
    refine M_gb mb rfl eX2_canPay_19 fl_X2_36_2 ?_
    refine V_bipush (v := 20) (by decide) eX2_canPay_22 ?_
    refine V_iload4 eX2_canPay_24 ?_
    refine V_imul eX2_canPay_26 ?_
    refine V_iload1 eX2_canPay_27 ?_
    refine V_iadd eX2_canPay_28 ?_
    refine M_bl (j := 15) (n := ((20 * b) + a)) mb rfl (zadd (zmul rfl rfl) rfl) (by show _ < _; first | decide | (simp only [mlen]; omega)) (show _ = (B 15 ((20 * b) + a)) from rfl) eX2_canPay_29 ?_
    refine V_ladd eX2_canPay_30 ?_
    refine V_lstore2 rfl eX2_canPay_31 rfl ?_
    refine V_iincN4 rfl eX2_canPay_32 rfl ?_
    refine V_goto eX2_canPay_35 ?_
    exact V.le (zle_c (zle_c (zle_c (zle_n (zle_c zle_0))))) (ih10 hl10 (q10 + (B 15 ((20 * b) + a))) (by rw [zfold_s (n := b), ← hq10]; simp only [K_canPay_10])  )

def K_pays_5 (B : Nat → Nat → Int64) (a : Nat) : Nat → Int64 → Int64 := fun b q5 =>
    (q5 + (B 15 ((20 * a) + b)))
def o_pays (B : Nat → Nat → Int64) (a : Nat) : Int64 :=
  let q5 := zfold (K_pays_5 B a) 20 (0 : Int64)
  q5
theorem c_pays {w : Wd} {h : Hp} {m : Nat} {ad : Nat → Nat} {A : Nat → Nat → Int32} {B : Nat → Nat → Int64} {F S : Nat → Int32} (mb : MB h m ad) (a : Nat) (ha : a < 20) : Con w mX2_pays cX2_pays 1 0 0 [.ref m, .int (nI a)] (ms h A B F S) (Rv (.long (o_pays B a)) (ms h A B F S)) := by
  refine Con.of (by decide +kernel) rfl rfl ?_
  show V w mX2_pays cX2_pays 1 0 0 _ 0 [some (.ref m), some (.int (nI a)), none, none, none] [] _
  refine V_lconst (v := 0) (by decide) eX2_pays_0 ?_
  refine V_lstore2 rfl eX2_pays_1 rfl ?_
  refine V_iconst (v := 0) (by decide) eX2_pays_2 ?_
  refine V_istore4 rfl eX2_pays_3 rfl ?_
  refine V.le (zle_c (zle_c (zle_c (zle_n (zle_c zle_0))))) (zloop (P := fun b => ∀ q5 : Int64, q5 = zfold (K_pays_5 B a) b (0 : Int64) → V w mX2_pays cX2_pays 1 0 0 (ms h A B F S) 5 [some (.ref m), some (.int (nI a)), some (.long q5), none, some (.int (nI b))] [] _) 20 (fun b hb ih5 q5 hq5  => ?_) 0 (Nat.zero_le _) (0 : Int64) rfl )
  refine V_iload4 eX2_pays_5 ?_
  refine V_bipush (v := 20) (by decide) eX2_pays_7 ?_
  refine V_if_icmpge eX2_pays_9 (fun c9 => ?_) (fun c9 => ?_)
  · have e5 : b = 20 := by have := nle (a := 20) c9 (by omega) (by omega); omega
    rw [e5] at hq5
    refine V_lload2 eX2_pays_33 ?_
    have hE : q5 = o_pays B a := by simp only [o_pays, ← hq5]
    exact V_lreturn eX2_pays_34 rfl (by rw [← hE]; exact ⟨rfl, rfl⟩)
  · have hl5 : b < 20 := by have := nnle (a := 20) c9 (by omega) (by omega); omega
    refine V_lload2 eX2_pays_12 ?_
    refine V_aload0 eX2_pays_13 rfl ?_
    refine M_gb mb rfl eX2_pays_14 fl_X2_36_2 ?_
    refine V_bipush (v := 20) (by decide) eX2_pays_17 ?_
    refine V_iload1 eX2_pays_19 ?_
    refine V_imul eX2_pays_20 ?_
    refine V_iload4 eX2_pays_21 ?_
    refine V_iadd eX2_pays_23 ?_
    refine M_bl (j := 15) (n := ((20 * a) + b)) mb rfl (zadd (zmul rfl rfl) rfl) (by show _ < _; first | decide | (simp only [mlen]; omega)) (show _ = (B 15 ((20 * a) + b)) from rfl) eX2_pays_24 ?_
    refine V_ladd eX2_pays_25 ?_
    refine V_lstore2 rfl eX2_pays_26 rfl ?_
    refine V_iincN4 rfl eX2_pays_27 rfl ?_
    refine V_goto eX2_pays_30 ?_
    exact V.le (zle_c (zle_c (zle_c (zle_n (zle_c zle_0))))) (ih5 hl5 (q5 + (B 15 ((20 * a) + b))) (by rw [zfold_s (n := b), ← hq5]; simp only [K_pays_5])  )

def K_bestOf_5 (S : Nat → Int32) (sch : Int32) (asks : Int32) : Nat → Int32 → Int32 := fun f q5 =>
    if (S (11640 + f)) = sch then
      if (S (11800 + f)) = asks then
        if (S (11720 + f)) ≤ 0 then
          if q5 = (-1 : Int32) then
            q5
          else
            let b := q5.toNatClampNeg
            if asks = (1 : Int32) then
              if (S (11760 + f)) ≤ (S (11760 + b)) then
                q5
              else
                q5
            else
              if (S (11760 + b)) ≤ (S (11760 + f)) then
                q5
              else
                q5
        else
          if q5 = (-1 : Int32) then
            (nI f)
          else
            let b := q5.toNatClampNeg
            if asks = (1 : Int32) then
              if (S (11760 + f)) ≤ (S (11760 + b)) then
                q5
              else
                (nI f)
            else
              if (S (11760 + b)) ≤ (S (11760 + f)) then
                q5
              else
                (nI f)
      else
        if q5 = (-1 : Int32) then
          q5
        else
          let b := q5.toNatClampNeg
          if asks = (1 : Int32) then
            if (S (11760 + f)) ≤ (S (11760 + b)) then
              q5
            else
              q5
          else
            if (S (11760 + b)) ≤ (S (11760 + f)) then
              q5
            else
              q5
    else
      if q5 = (-1 : Int32) then
        q5
      else
        let b := q5.toNatClampNeg
        if asks = (1 : Int32) then
          if (S (11760 + f)) ≤ (S (11760 + b)) then
            q5
          else
            q5
        else
          if (S (11760 + b)) ≤ (S (11760 + f)) then
            q5
          else
            q5
def o_bestOf (S : Nat → Int32) (nf : Nat) (sch : Int32) (asks : Int32) : Int32 :=
  let q5 := zfold (K_bestOf_5 S sch asks) nf (-1 : Int32)
  q5
theorem c_bestOf {w : Wd} {h : Hp} {m : Nat} {ad : Nat → Nat} {A : Nat → Nat → Int32} {B : Nat → Nat → Int64} {F S : Nat → Int32} (mb : MB h m ad) (sch : Int32) (asks : Int32) {nf : Nat} (hnf : S 8 = nI nf) (hnf40 : nf ≤ 40) : Con w mX2_bestOf cX2_bestOf 1 0 0 [.ref m, .int sch, .int asks] (ms h A B F S) (Rv (.int (o_bestOf S nf sch asks)) (ms h A B F S)) := by
  refine Con.of (by decide +kernel) rfl rfl ?_
  show V w mX2_bestOf cX2_bestOf 1 0 0 _ 0 [some (.ref m), some (.int sch), some (.int asks), none, none, none, none] [] _
  refine V_iconst (v := -1) (by decide) eX2_bestOf_0 ?_
  refine V_istore3 rfl eX2_bestOf_1 rfl ?_
  refine V_iconst (v := 0) (by decide) eX2_bestOf_2 ?_
  refine V_istore4 rfl eX2_bestOf_3 rfl ?_
  refine V.le (zle_c (zle_c (zle_c (zle_c (zle_c (zle_n (zle_n zle_0))))))) (zloop (P := fun f => ∀ q5 : Int32, q5 = zfold (K_bestOf_5 S sch asks) f (-1 : Int32) → (q5 = -1 ∨ ∃ b, q5 = nI b ∧ b < 40) → V w mX2_bestOf cX2_bestOf 1 0 0 (ms h A B F S) 5 [some (.ref m), some (.int sch), some (.int asks), some (.int q5), some (.int (nI f)), none, none] [] _) nf (fun f hf ih5 q5 hq5 hB => ?_) 0 (Nat.zero_le _) (-1 : Int32) rfl (Or.inl rfl))
  refine V_iload4 eX2_bestOf_5 ?_
  refine V_aload0 eX2_bestOf_7 rfl ?_
  refine M_ga mb rfl eX2_bestOf_8 fl_X2_8_2 ?_
  refine V_bipush (v := 8) (by decide) eX2_bestOf_11 ?_
  refine M_sl (n := 8) mb rfl (by omega) hnf eX2_bestOf_13 ?_
  refine V_if_icmpge eX2_bestOf_14 (fun c14 => ?_) (fun c14 => ?_)
  · have e5 : f = nf := by have := nle c14 (by omega) (by omega); omega
    rw [e5] at hq5
    refine V_iload3 eX2_bestOf_159 ?_
    have hE : q5 = o_bestOf S nf sch asks := by simp only [o_bestOf, ← hq5]
    exact V_ireturn eX2_bestOf_160 rfl (by rw [← hE]; exact ⟨rfl, rfl⟩)
  · have hl5 : f < nf := by have := nnle c14 (by omega) (by omega); omega
    refine V_aload0 eX2_bestOf_17 rfl ?_
    refine M_ga mb rfl eX2_bestOf_18 fl_X2_8_2 ?_
    refine V_sipush (v := 11640) (by decide) eX2_bestOf_21 ?_
    refine V_iload4 eX2_bestOf_24 ?_
    refine V_iadd eX2_bestOf_26 ?_
    refine M_sl (n := (11640 + f)) mb (zadd rfl rfl) (by omega) rfl eX2_bestOf_27 ?_
    refine V_iload1 eX2_bestOf_28 ?_
    refine V_if_icmpne eX2_bestOf_29 (fun c29 => ?_) (fun c29 => ?_)
    · refine V_iconst (v := 0) (by decide) eX2_bestOf_65 ?_
      refine V_istore5 rfl eX2_bestOf_66 rfl ?_
      refine V_iload3 eX2_bestOf_68 ?_
      refine V_iconst (v := -1) (by decide) eX2_bestOf_69 ?_
      refine V_if_icmpeq eX2_bestOf_70 (fun c70 => ?_) (fun c70 => ?_)
      · refine V_iconst (v := 1) (by decide) eX2_bestOf_129 ?_
        refine V_goto eX2_bestOf_130 ?_
        refine V_istore6 rfl eX2_bestOf_134 rfl ?_
        refine V_iload5 eX2_bestOf_136 ?_
        refine V_ifeq eX2_bestOf_138 (fun c138 => ?_) (fun c138 => absurd c138 (by decide))
        refine V_iload3 eX2_bestOf_151 ?_
        refine V_istore3 rfl eX2_bestOf_152 rfl ?_
        refine V_iincN4 rfl eX2_bestOf_153 rfl ?_
        refine V_goto eX2_bestOf_156 ?_
        exact V.le (zle_c (zle_c (zle_c (zle_c (zle_c (zle_n (zle_n zle_0))))))) (ih5 hl5 q5 (by rw [zfold_s (n := f), ← hq5]; simp only [K_bestOf_5, if_neg c29, if_pos c70])  (by first | exact hB | exact Or.inr ⟨f, rfl, by omega⟩))
      · obtain ⟨b, hb, hb2⟩ : ∃ b, q5 = nI b ∧ b < 40 := by
          rcases hB with h | h
          · exact absurd h c70
          · exact h
        have hbc : q5.toNatClampNeg = b := by rw [hb]; exact nI_clamp (by omega)
        refine V_iload2 eX2_bestOf_73 ?_
        refine V_iconst (v := 1) (by decide) eX2_bestOf_74 ?_
        refine V_if_icmpne eX2_bestOf_75 (fun c75 => ?_) (fun c75 => ?_)
        · refine V_aload0 eX2_bestOf_105 rfl ?_
          refine M_ga mb rfl eX2_bestOf_106 fl_X2_8_2 ?_
          refine V_sipush (v := 11760) (by decide) eX2_bestOf_109 ?_
          refine V_iload4 eX2_bestOf_112 ?_
          refine V_iadd eX2_bestOf_114 ?_
          refine M_sl (n := (11760 + f)) mb (zadd rfl rfl) (by omega) rfl eX2_bestOf_115 ?_
          refine V_aload0 eX2_bestOf_116 rfl ?_
          refine M_ga mb rfl eX2_bestOf_117 fl_X2_8_2 ?_
          refine V_sipush (v := 11760) (by decide) eX2_bestOf_120 ?_
          refine V_iload3 eX2_bestOf_123 ?_
          refine V_iadd eX2_bestOf_124 ?_
          refine M_sl (n := (11760 + b)) mb (zadd rfl hb) (by omega) rfl eX2_bestOf_125 ?_
          refine V_if_icmpge eX2_bestOf_126 (fun c126 => ?_) (fun c126 => ?_)
          · refine V_iconst (v := 0) (by decide) eX2_bestOf_133 ?_
            refine V_istore6 rfl eX2_bestOf_134 rfl ?_
            refine V_iload5 eX2_bestOf_136 ?_
            refine V_ifeq eX2_bestOf_138 (fun c138 => ?_) (fun c138 => absurd c138 (by decide))
            refine V_iload3 eX2_bestOf_151 ?_
            refine V_istore3 rfl eX2_bestOf_152 rfl ?_
            refine V_iincN4 rfl eX2_bestOf_153 rfl ?_
            refine V_goto eX2_bestOf_156 ?_
            exact V.le (zle_c (zle_c (zle_c (zle_c (zle_c (zle_n (zle_n zle_0))))))) (ih5 hl5 q5 (by rw [zfold_s (n := f), ← hq5]; simp only [K_bestOf_5, hbc, if_neg c29, if_neg c70, if_neg c75, if_pos c126])  (by first | exact hB | exact Or.inr ⟨f, rfl, by omega⟩))
          · refine V_iconst (v := 1) (by decide) eX2_bestOf_129 ?_
            refine V_goto eX2_bestOf_130 ?_
            refine V_istore6 rfl eX2_bestOf_134 rfl ?_
            refine V_iload5 eX2_bestOf_136 ?_
            refine V_ifeq eX2_bestOf_138 (fun c138 => ?_) (fun c138 => absurd c138 (by decide))
            refine V_iload3 eX2_bestOf_151 ?_
            refine V_istore3 rfl eX2_bestOf_152 rfl ?_
            refine V_iincN4 rfl eX2_bestOf_153 rfl ?_
            refine V_goto eX2_bestOf_156 ?_
            exact V.le (zle_c (zle_c (zle_c (zle_c (zle_c (zle_n (zle_n zle_0))))))) (ih5 hl5 q5 (by rw [zfold_s (n := f), ← hq5]; simp only [K_bestOf_5, hbc, if_neg c29, if_neg c70, if_neg c75, if_neg c126])  (by first | exact hB | exact Or.inr ⟨f, rfl, by omega⟩))
        · refine V_aload0 eX2_bestOf_78 rfl ?_
          refine M_ga mb rfl eX2_bestOf_79 fl_X2_8_2 ?_
          refine V_sipush (v := 11760) (by decide) eX2_bestOf_82 ?_
          refine V_iload4 eX2_bestOf_85 ?_
          refine V_iadd eX2_bestOf_87 ?_
          refine M_sl (n := (11760 + f)) mb (zadd rfl rfl) (by omega) rfl eX2_bestOf_88 ?_
          refine V_aload0 eX2_bestOf_89 rfl ?_
          refine M_ga mb rfl eX2_bestOf_90 fl_X2_8_2 ?_
          refine V_sipush (v := 11760) (by decide) eX2_bestOf_93 ?_
          refine V_iload3 eX2_bestOf_96 ?_
          refine V_iadd eX2_bestOf_97 ?_
          refine M_sl (n := (11760 + b)) mb (zadd rfl hb) (by omega) rfl eX2_bestOf_98 ?_
          refine V_if_icmple eX2_bestOf_99 (fun c99 => ?_) (fun c99 => ?_)
          · refine V_iconst (v := 0) (by decide) eX2_bestOf_133 ?_
            refine V_istore6 rfl eX2_bestOf_134 rfl ?_
            refine V_iload5 eX2_bestOf_136 ?_
            refine V_ifeq eX2_bestOf_138 (fun c138 => ?_) (fun c138 => absurd c138 (by decide))
            refine V_iload3 eX2_bestOf_151 ?_
            refine V_istore3 rfl eX2_bestOf_152 rfl ?_
            refine V_iincN4 rfl eX2_bestOf_153 rfl ?_
            refine V_goto eX2_bestOf_156 ?_
            exact V.le (zle_c (zle_c (zle_c (zle_c (zle_c (zle_n (zle_n zle_0))))))) (ih5 hl5 q5 (by rw [zfold_s (n := f), ← hq5]; simp only [K_bestOf_5, hbc, if_neg c29, if_neg c70, if_pos c75, if_pos c99])  (by first | exact hB | exact Or.inr ⟨f, rfl, by omega⟩))
          · refine V_goto eX2_bestOf_102 ?_
            refine V_iconst (v := 1) (by decide) eX2_bestOf_129 ?_
            refine V_goto eX2_bestOf_130 ?_
            refine V_istore6 rfl eX2_bestOf_134 rfl ?_
            refine V_iload5 eX2_bestOf_136 ?_
            refine V_ifeq eX2_bestOf_138 (fun c138 => ?_) (fun c138 => absurd c138 (by decide))
            refine V_iload3 eX2_bestOf_151 ?_
            refine V_istore3 rfl eX2_bestOf_152 rfl ?_
            refine V_iincN4 rfl eX2_bestOf_153 rfl ?_
            refine V_goto eX2_bestOf_156 ?_
            exact V.le (zle_c (zle_c (zle_c (zle_c (zle_c (zle_n (zle_n zle_0))))))) (ih5 hl5 q5 (by rw [zfold_s (n := f), ← hq5]; simp only [K_bestOf_5, hbc, if_neg c29, if_neg c70, if_pos c75, if_neg c99])  (by first | exact hB | exact Or.inr ⟨f, rfl, by omega⟩))
    · refine V_aload0 eX2_bestOf_32 rfl ?_
      refine M_ga mb rfl eX2_bestOf_33 fl_X2_8_2 ?_
      refine V_sipush (v := 11800) (by decide) eX2_bestOf_36 ?_
      refine V_iload4 eX2_bestOf_39 ?_
      refine V_iadd eX2_bestOf_41 ?_
      refine M_sl (n := (11800 + f)) mb (zadd rfl rfl) (by omega) rfl eX2_bestOf_42 ?_
      refine V_iload2 eX2_bestOf_43 ?_
      refine V_if_icmpne eX2_bestOf_44 (fun c44 => ?_) (fun c44 => ?_)
      · refine V_iconst (v := 0) (by decide) eX2_bestOf_65 ?_
        refine V_istore5 rfl eX2_bestOf_66 rfl ?_
        refine V_iload3 eX2_bestOf_68 ?_
        refine V_iconst (v := -1) (by decide) eX2_bestOf_69 ?_
        refine V_if_icmpeq eX2_bestOf_70 (fun c70 => ?_) (fun c70 => ?_)
        · refine V_iconst (v := 1) (by decide) eX2_bestOf_129 ?_
          refine V_goto eX2_bestOf_130 ?_
          refine V_istore6 rfl eX2_bestOf_134 rfl ?_
          refine V_iload5 eX2_bestOf_136 ?_
          refine V_ifeq eX2_bestOf_138 (fun c138 => ?_) (fun c138 => absurd c138 (by decide))
          refine V_iload3 eX2_bestOf_151 ?_
          refine V_istore3 rfl eX2_bestOf_152 rfl ?_
          refine V_iincN4 rfl eX2_bestOf_153 rfl ?_
          refine V_goto eX2_bestOf_156 ?_
          exact V.le (zle_c (zle_c (zle_c (zle_c (zle_c (zle_n (zle_n zle_0))))))) (ih5 hl5 q5 (by rw [zfold_s (n := f), ← hq5]; simp only [K_bestOf_5, if_pos c29, if_neg c44, if_pos c70])  (by first | exact hB | exact Or.inr ⟨f, rfl, by omega⟩))
        · obtain ⟨b, hb, hb2⟩ : ∃ b, q5 = nI b ∧ b < 40 := by
            rcases hB with h | h
            · exact absurd h c70
            · exact h
          have hbc : q5.toNatClampNeg = b := by rw [hb]; exact nI_clamp (by omega)
          refine V_iload2 eX2_bestOf_73 ?_
          refine V_iconst (v := 1) (by decide) eX2_bestOf_74 ?_
          refine V_if_icmpne eX2_bestOf_75 (fun c75 => ?_) (fun c75 => ?_)
          · refine V_aload0 eX2_bestOf_105 rfl ?_
            refine M_ga mb rfl eX2_bestOf_106 fl_X2_8_2 ?_
            refine V_sipush (v := 11760) (by decide) eX2_bestOf_109 ?_
            refine V_iload4 eX2_bestOf_112 ?_
            refine V_iadd eX2_bestOf_114 ?_
            refine M_sl (n := (11760 + f)) mb (zadd rfl rfl) (by omega) rfl eX2_bestOf_115 ?_
            refine V_aload0 eX2_bestOf_116 rfl ?_
            refine M_ga mb rfl eX2_bestOf_117 fl_X2_8_2 ?_
            refine V_sipush (v := 11760) (by decide) eX2_bestOf_120 ?_
            refine V_iload3 eX2_bestOf_123 ?_
            refine V_iadd eX2_bestOf_124 ?_
            refine M_sl (n := (11760 + b)) mb (zadd rfl hb) (by omega) rfl eX2_bestOf_125 ?_
            refine V_if_icmpge eX2_bestOf_126 (fun c126 => ?_) (fun c126 => ?_)
            · refine V_iconst (v := 0) (by decide) eX2_bestOf_133 ?_
              refine V_istore6 rfl eX2_bestOf_134 rfl ?_
              refine V_iload5 eX2_bestOf_136 ?_
              refine V_ifeq eX2_bestOf_138 (fun c138 => ?_) (fun c138 => absurd c138 (by decide))
              refine V_iload3 eX2_bestOf_151 ?_
              refine V_istore3 rfl eX2_bestOf_152 rfl ?_
              refine V_iincN4 rfl eX2_bestOf_153 rfl ?_
              refine V_goto eX2_bestOf_156 ?_
              exact V.le (zle_c (zle_c (zle_c (zle_c (zle_c (zle_n (zle_n zle_0))))))) (ih5 hl5 q5 (by rw [zfold_s (n := f), ← hq5]; simp only [K_bestOf_5, hbc, if_pos c29, if_neg c44, if_neg c70, if_neg c75, if_pos c126])  (by first | exact hB | exact Or.inr ⟨f, rfl, by omega⟩))
            · refine V_iconst (v := 1) (by decide) eX2_bestOf_129 ?_
              refine V_goto eX2_bestOf_130 ?_
              refine V_istore6 rfl eX2_bestOf_134 rfl ?_
              refine V_iload5 eX2_bestOf_136 ?_
              refine V_ifeq eX2_bestOf_138 (fun c138 => ?_) (fun c138 => absurd c138 (by decide))
              refine V_iload3 eX2_bestOf_151 ?_
              refine V_istore3 rfl eX2_bestOf_152 rfl ?_
              refine V_iincN4 rfl eX2_bestOf_153 rfl ?_
              refine V_goto eX2_bestOf_156 ?_
              exact V.le (zle_c (zle_c (zle_c (zle_c (zle_c (zle_n (zle_n zle_0))))))) (ih5 hl5 q5 (by rw [zfold_s (n := f), ← hq5]; simp only [K_bestOf_5, hbc, if_pos c29, if_neg c44, if_neg c70, if_neg c75, if_neg c126])  (by first | exact hB | exact Or.inr ⟨f, rfl, by omega⟩))
          · refine V_aload0 eX2_bestOf_78 rfl ?_
            refine M_ga mb rfl eX2_bestOf_79 fl_X2_8_2 ?_
            refine V_sipush (v := 11760) (by decide) eX2_bestOf_82 ?_
            refine V_iload4 eX2_bestOf_85 ?_
            refine V_iadd eX2_bestOf_87 ?_
            refine M_sl (n := (11760 + f)) mb (zadd rfl rfl) (by omega) rfl eX2_bestOf_88 ?_
            refine V_aload0 eX2_bestOf_89 rfl ?_
            refine M_ga mb rfl eX2_bestOf_90 fl_X2_8_2 ?_
            refine V_sipush (v := 11760) (by decide) eX2_bestOf_93 ?_
            refine V_iload3 eX2_bestOf_96 ?_
            refine V_iadd eX2_bestOf_97 ?_
            refine M_sl (n := (11760 + b)) mb (zadd rfl hb) (by omega) rfl eX2_bestOf_98 ?_
            refine V_if_icmple eX2_bestOf_99 (fun c99 => ?_) (fun c99 => ?_)
            · refine V_iconst (v := 0) (by decide) eX2_bestOf_133 ?_
              refine V_istore6 rfl eX2_bestOf_134 rfl ?_
              refine V_iload5 eX2_bestOf_136 ?_
              refine V_ifeq eX2_bestOf_138 (fun c138 => ?_) (fun c138 => absurd c138 (by decide))
              refine V_iload3 eX2_bestOf_151 ?_
              refine V_istore3 rfl eX2_bestOf_152 rfl ?_
              refine V_iincN4 rfl eX2_bestOf_153 rfl ?_
              refine V_goto eX2_bestOf_156 ?_
              exact V.le (zle_c (zle_c (zle_c (zle_c (zle_c (zle_n (zle_n zle_0))))))) (ih5 hl5 q5 (by rw [zfold_s (n := f), ← hq5]; simp only [K_bestOf_5, hbc, if_pos c29, if_neg c44, if_neg c70, if_pos c75, if_pos c99])  (by first | exact hB | exact Or.inr ⟨f, rfl, by omega⟩))
            · refine V_goto eX2_bestOf_102 ?_
              refine V_iconst (v := 1) (by decide) eX2_bestOf_129 ?_
              refine V_goto eX2_bestOf_130 ?_
              refine V_istore6 rfl eX2_bestOf_134 rfl ?_
              refine V_iload5 eX2_bestOf_136 ?_
              refine V_ifeq eX2_bestOf_138 (fun c138 => ?_) (fun c138 => absurd c138 (by decide))
              refine V_iload3 eX2_bestOf_151 ?_
              refine V_istore3 rfl eX2_bestOf_152 rfl ?_
              refine V_iincN4 rfl eX2_bestOf_153 rfl ?_
              refine V_goto eX2_bestOf_156 ?_
              exact V.le (zle_c (zle_c (zle_c (zle_c (zle_c (zle_n (zle_n zle_0))))))) (ih5 hl5 q5 (by rw [zfold_s (n := f), ← hq5]; simp only [K_bestOf_5, hbc, if_pos c29, if_neg c44, if_neg c70, if_pos c75, if_neg c99])  (by first | exact hB | exact Or.inr ⟨f, rfl, by omega⟩))
      · refine V_aload0 eX2_bestOf_47 rfl ?_
        refine M_ga mb rfl eX2_bestOf_48 fl_X2_8_2 ?_
        refine V_sipush (v := 11720) (by decide) eX2_bestOf_51 ?_
        refine V_iload4 eX2_bestOf_54 ?_
        refine V_iadd eX2_bestOf_56 ?_
        refine M_sl (n := (11720 + f)) mb (zadd rfl rfl) (by omega) rfl eX2_bestOf_57 ?_
        refine V_ifle eX2_bestOf_58 (fun c58 => ?_) (fun c58 => ?_)
        · refine V_iconst (v := 0) (by decide) eX2_bestOf_65 ?_
          refine V_istore5 rfl eX2_bestOf_66 rfl ?_
          refine V_iload3 eX2_bestOf_68 ?_
          refine V_iconst (v := -1) (by decide) eX2_bestOf_69 ?_
          refine V_if_icmpeq eX2_bestOf_70 (fun c70 => ?_) (fun c70 => ?_)
          · refine V_iconst (v := 1) (by decide) eX2_bestOf_129 ?_
            refine V_goto eX2_bestOf_130 ?_
            refine V_istore6 rfl eX2_bestOf_134 rfl ?_
            refine V_iload5 eX2_bestOf_136 ?_
            refine V_ifeq eX2_bestOf_138 (fun c138 => ?_) (fun c138 => absurd c138 (by decide))
            refine V_iload3 eX2_bestOf_151 ?_
            refine V_istore3 rfl eX2_bestOf_152 rfl ?_
            refine V_iincN4 rfl eX2_bestOf_153 rfl ?_
            refine V_goto eX2_bestOf_156 ?_
            exact V.le (zle_c (zle_c (zle_c (zle_c (zle_c (zle_n (zle_n zle_0))))))) (ih5 hl5 q5 (by rw [zfold_s (n := f), ← hq5]; simp only [K_bestOf_5, if_pos c29, if_pos c44, if_pos c58, if_pos c70])  (by first | exact hB | exact Or.inr ⟨f, rfl, by omega⟩))
          · obtain ⟨b, hb, hb2⟩ : ∃ b, q5 = nI b ∧ b < 40 := by
              rcases hB with h | h
              · exact absurd h c70
              · exact h
            have hbc : q5.toNatClampNeg = b := by rw [hb]; exact nI_clamp (by omega)
            refine V_iload2 eX2_bestOf_73 ?_
            refine V_iconst (v := 1) (by decide) eX2_bestOf_74 ?_
            refine V_if_icmpne eX2_bestOf_75 (fun c75 => ?_) (fun c75 => ?_)
            · refine V_aload0 eX2_bestOf_105 rfl ?_
              refine M_ga mb rfl eX2_bestOf_106 fl_X2_8_2 ?_
              refine V_sipush (v := 11760) (by decide) eX2_bestOf_109 ?_
              refine V_iload4 eX2_bestOf_112 ?_
              refine V_iadd eX2_bestOf_114 ?_
              refine M_sl (n := (11760 + f)) mb (zadd rfl rfl) (by omega) rfl eX2_bestOf_115 ?_
              refine V_aload0 eX2_bestOf_116 rfl ?_
              refine M_ga mb rfl eX2_bestOf_117 fl_X2_8_2 ?_
              refine V_sipush (v := 11760) (by decide) eX2_bestOf_120 ?_
              refine V_iload3 eX2_bestOf_123 ?_
              refine V_iadd eX2_bestOf_124 ?_
              refine M_sl (n := (11760 + b)) mb (zadd rfl hb) (by omega) rfl eX2_bestOf_125 ?_
              refine V_if_icmpge eX2_bestOf_126 (fun c126 => ?_) (fun c126 => ?_)
              · refine V_iconst (v := 0) (by decide) eX2_bestOf_133 ?_
                refine V_istore6 rfl eX2_bestOf_134 rfl ?_
                refine V_iload5 eX2_bestOf_136 ?_
                refine V_ifeq eX2_bestOf_138 (fun c138 => ?_) (fun c138 => absurd c138 (by decide))
                refine V_iload3 eX2_bestOf_151 ?_
                refine V_istore3 rfl eX2_bestOf_152 rfl ?_
                refine V_iincN4 rfl eX2_bestOf_153 rfl ?_
                refine V_goto eX2_bestOf_156 ?_
                exact V.le (zle_c (zle_c (zle_c (zle_c (zle_c (zle_n (zle_n zle_0))))))) (ih5 hl5 q5 (by rw [zfold_s (n := f), ← hq5]; simp only [K_bestOf_5, hbc, if_pos c29, if_pos c44, if_pos c58, if_neg c70, if_neg c75, if_pos c126])  (by first | exact hB | exact Or.inr ⟨f, rfl, by omega⟩))
              · refine V_iconst (v := 1) (by decide) eX2_bestOf_129 ?_
                refine V_goto eX2_bestOf_130 ?_
                refine V_istore6 rfl eX2_bestOf_134 rfl ?_
                refine V_iload5 eX2_bestOf_136 ?_
                refine V_ifeq eX2_bestOf_138 (fun c138 => ?_) (fun c138 => absurd c138 (by decide))
                refine V_iload3 eX2_bestOf_151 ?_
                refine V_istore3 rfl eX2_bestOf_152 rfl ?_
                refine V_iincN4 rfl eX2_bestOf_153 rfl ?_
                refine V_goto eX2_bestOf_156 ?_
                exact V.le (zle_c (zle_c (zle_c (zle_c (zle_c (zle_n (zle_n zle_0))))))) (ih5 hl5 q5 (by rw [zfold_s (n := f), ← hq5]; simp only [K_bestOf_5, hbc, if_pos c29, if_pos c44, if_pos c58, if_neg c70, if_neg c75, if_neg c126])  (by first | exact hB | exact Or.inr ⟨f, rfl, by omega⟩))
            · refine V_aload0 eX2_bestOf_78 rfl ?_
              refine M_ga mb rfl eX2_bestOf_79 fl_X2_8_2 ?_
              refine V_sipush (v := 11760) (by decide) eX2_bestOf_82 ?_
              refine V_iload4 eX2_bestOf_85 ?_
              refine V_iadd eX2_bestOf_87 ?_
              refine M_sl (n := (11760 + f)) mb (zadd rfl rfl) (by omega) rfl eX2_bestOf_88 ?_
              refine V_aload0 eX2_bestOf_89 rfl ?_
              refine M_ga mb rfl eX2_bestOf_90 fl_X2_8_2 ?_
              refine V_sipush (v := 11760) (by decide) eX2_bestOf_93 ?_
              refine V_iload3 eX2_bestOf_96 ?_
              refine V_iadd eX2_bestOf_97 ?_
              refine M_sl (n := (11760 + b)) mb (zadd rfl hb) (by omega) rfl eX2_bestOf_98 ?_
              refine V_if_icmple eX2_bestOf_99 (fun c99 => ?_) (fun c99 => ?_)
              · refine V_iconst (v := 0) (by decide) eX2_bestOf_133 ?_
                refine V_istore6 rfl eX2_bestOf_134 rfl ?_
                refine V_iload5 eX2_bestOf_136 ?_
                refine V_ifeq eX2_bestOf_138 (fun c138 => ?_) (fun c138 => absurd c138 (by decide))
                refine V_iload3 eX2_bestOf_151 ?_
                refine V_istore3 rfl eX2_bestOf_152 rfl ?_
                refine V_iincN4 rfl eX2_bestOf_153 rfl ?_
                refine V_goto eX2_bestOf_156 ?_
                exact V.le (zle_c (zle_c (zle_c (zle_c (zle_c (zle_n (zle_n zle_0))))))) (ih5 hl5 q5 (by rw [zfold_s (n := f), ← hq5]; simp only [K_bestOf_5, hbc, if_pos c29, if_pos c44, if_pos c58, if_neg c70, if_pos c75, if_pos c99])  (by first | exact hB | exact Or.inr ⟨f, rfl, by omega⟩))
              · refine V_goto eX2_bestOf_102 ?_
                refine V_iconst (v := 1) (by decide) eX2_bestOf_129 ?_
                refine V_goto eX2_bestOf_130 ?_
                refine V_istore6 rfl eX2_bestOf_134 rfl ?_
                refine V_iload5 eX2_bestOf_136 ?_
                refine V_ifeq eX2_bestOf_138 (fun c138 => ?_) (fun c138 => absurd c138 (by decide))
                refine V_iload3 eX2_bestOf_151 ?_
                refine V_istore3 rfl eX2_bestOf_152 rfl ?_
                refine V_iincN4 rfl eX2_bestOf_153 rfl ?_
                refine V_goto eX2_bestOf_156 ?_
                exact V.le (zle_c (zle_c (zle_c (zle_c (zle_c (zle_n (zle_n zle_0))))))) (ih5 hl5 q5 (by rw [zfold_s (n := f), ← hq5]; simp only [K_bestOf_5, hbc, if_pos c29, if_pos c44, if_pos c58, if_neg c70, if_pos c75, if_neg c99])  (by first | exact hB | exact Or.inr ⟨f, rfl, by omega⟩))
        · refine V_iconst (v := 1) (by decide) eX2_bestOf_61 ?_
          refine V_goto eX2_bestOf_62 ?_
          refine V_istore5 rfl eX2_bestOf_66 rfl ?_
          refine V_iload3 eX2_bestOf_68 ?_
          refine V_iconst (v := -1) (by decide) eX2_bestOf_69 ?_
          refine V_if_icmpeq eX2_bestOf_70 (fun c70 => ?_) (fun c70 => ?_)
          · refine V_iconst (v := 1) (by decide) eX2_bestOf_129 ?_
            refine V_goto eX2_bestOf_130 ?_
            refine V_istore6 rfl eX2_bestOf_134 rfl ?_
            refine V_iload5 eX2_bestOf_136 ?_
            refine V_ifeq eX2_bestOf_138 (fun c138 => absurd c138 (by decide)) (fun c138 => ?_)
            refine V_iload6 eX2_bestOf_141 ?_
            refine V_ifeq eX2_bestOf_143 (fun c143 => absurd c143 (by decide)) (fun c143 => ?_)
            refine V_iload4 eX2_bestOf_146 ?_
            refine V_goto eX2_bestOf_148 ?_
            refine V_istore3 rfl eX2_bestOf_152 rfl ?_
            refine V_iincN4 rfl eX2_bestOf_153 rfl ?_
            refine V_goto eX2_bestOf_156 ?_
            exact V.le (zle_c (zle_c (zle_c (zle_c (zle_c (zle_n (zle_n zle_0))))))) (ih5 hl5 (nI f) (by rw [zfold_s (n := f), ← hq5]; simp only [K_bestOf_5, if_pos c29, if_pos c44, if_neg c58, if_pos c70])  (by first | exact hB | exact Or.inr ⟨f, rfl, by omega⟩))
          · obtain ⟨b, hb, hb2⟩ : ∃ b, q5 = nI b ∧ b < 40 := by
              rcases hB with h | h
              · exact absurd h c70
              · exact h
            have hbc : q5.toNatClampNeg = b := by rw [hb]; exact nI_clamp (by omega)
            refine V_iload2 eX2_bestOf_73 ?_
            refine V_iconst (v := 1) (by decide) eX2_bestOf_74 ?_
            refine V_if_icmpne eX2_bestOf_75 (fun c75 => ?_) (fun c75 => ?_)
            · refine V_aload0 eX2_bestOf_105 rfl ?_
              refine M_ga mb rfl eX2_bestOf_106 fl_X2_8_2 ?_
              refine V_sipush (v := 11760) (by decide) eX2_bestOf_109 ?_
              refine V_iload4 eX2_bestOf_112 ?_
              refine V_iadd eX2_bestOf_114 ?_
              refine M_sl (n := (11760 + f)) mb (zadd rfl rfl) (by omega) rfl eX2_bestOf_115 ?_
              refine V_aload0 eX2_bestOf_116 rfl ?_
              refine M_ga mb rfl eX2_bestOf_117 fl_X2_8_2 ?_
              refine V_sipush (v := 11760) (by decide) eX2_bestOf_120 ?_
              refine V_iload3 eX2_bestOf_123 ?_
              refine V_iadd eX2_bestOf_124 ?_
              refine M_sl (n := (11760 + b)) mb (zadd rfl hb) (by omega) rfl eX2_bestOf_125 ?_
              refine V_if_icmpge eX2_bestOf_126 (fun c126 => ?_) (fun c126 => ?_)
              · refine V_iconst (v := 0) (by decide) eX2_bestOf_133 ?_
                refine V_istore6 rfl eX2_bestOf_134 rfl ?_
                refine V_iload5 eX2_bestOf_136 ?_
                refine V_ifeq eX2_bestOf_138 (fun c138 => absurd c138 (by decide)) (fun c138 => ?_)
                refine V_iload6 eX2_bestOf_141 ?_
                refine V_ifeq eX2_bestOf_143 (fun c143 => ?_) (fun c143 => absurd c143 (by decide))
                refine V_iload3 eX2_bestOf_151 ?_
                refine V_istore3 rfl eX2_bestOf_152 rfl ?_
                refine V_iincN4 rfl eX2_bestOf_153 rfl ?_
                refine V_goto eX2_bestOf_156 ?_
                exact V.le (zle_c (zle_c (zle_c (zle_c (zle_c (zle_n (zle_n zle_0))))))) (ih5 hl5 q5 (by rw [zfold_s (n := f), ← hq5]; simp only [K_bestOf_5, hbc, if_pos c29, if_pos c44, if_neg c58, if_neg c70, if_neg c75, if_pos c126])  (by first | exact hB | exact Or.inr ⟨f, rfl, by omega⟩))
              · refine V_iconst (v := 1) (by decide) eX2_bestOf_129 ?_
                refine V_goto eX2_bestOf_130 ?_
                refine V_istore6 rfl eX2_bestOf_134 rfl ?_
                refine V_iload5 eX2_bestOf_136 ?_
                refine V_ifeq eX2_bestOf_138 (fun c138 => absurd c138 (by decide)) (fun c138 => ?_)
                refine V_iload6 eX2_bestOf_141 ?_
                refine V_ifeq eX2_bestOf_143 (fun c143 => absurd c143 (by decide)) (fun c143 => ?_)
                refine V_iload4 eX2_bestOf_146 ?_
                refine V_goto eX2_bestOf_148 ?_
                refine V_istore3 rfl eX2_bestOf_152 rfl ?_
                refine V_iincN4 rfl eX2_bestOf_153 rfl ?_
                refine V_goto eX2_bestOf_156 ?_
                exact V.le (zle_c (zle_c (zle_c (zle_c (zle_c (zle_n (zle_n zle_0))))))) (ih5 hl5 (nI f) (by rw [zfold_s (n := f), ← hq5]; simp only [K_bestOf_5, hbc, if_pos c29, if_pos c44, if_neg c58, if_neg c70, if_neg c75, if_neg c126])  (by first | exact hB | exact Or.inr ⟨f, rfl, by omega⟩))
            · refine V_aload0 eX2_bestOf_78 rfl ?_
              refine M_ga mb rfl eX2_bestOf_79 fl_X2_8_2 ?_
              refine V_sipush (v := 11760) (by decide) eX2_bestOf_82 ?_
              refine V_iload4 eX2_bestOf_85 ?_
              refine V_iadd eX2_bestOf_87 ?_
              refine M_sl (n := (11760 + f)) mb (zadd rfl rfl) (by omega) rfl eX2_bestOf_88 ?_
              refine V_aload0 eX2_bestOf_89 rfl ?_
              refine M_ga mb rfl eX2_bestOf_90 fl_X2_8_2 ?_
              refine V_sipush (v := 11760) (by decide) eX2_bestOf_93 ?_
              refine V_iload3 eX2_bestOf_96 ?_
              refine V_iadd eX2_bestOf_97 ?_
              refine M_sl (n := (11760 + b)) mb (zadd rfl hb) (by omega) rfl eX2_bestOf_98 ?_
              refine V_if_icmple eX2_bestOf_99 (fun c99 => ?_) (fun c99 => ?_)
              · refine V_iconst (v := 0) (by decide) eX2_bestOf_133 ?_
                refine V_istore6 rfl eX2_bestOf_134 rfl ?_
                refine V_iload5 eX2_bestOf_136 ?_
                refine V_ifeq eX2_bestOf_138 (fun c138 => absurd c138 (by decide)) (fun c138 => ?_)
                refine V_iload6 eX2_bestOf_141 ?_
                refine V_ifeq eX2_bestOf_143 (fun c143 => ?_) (fun c143 => absurd c143 (by decide))
                refine V_iload3 eX2_bestOf_151 ?_
                refine V_istore3 rfl eX2_bestOf_152 rfl ?_
                refine V_iincN4 rfl eX2_bestOf_153 rfl ?_
                refine V_goto eX2_bestOf_156 ?_
                exact V.le (zle_c (zle_c (zle_c (zle_c (zle_c (zle_n (zle_n zle_0))))))) (ih5 hl5 q5 (by rw [zfold_s (n := f), ← hq5]; simp only [K_bestOf_5, hbc, if_pos c29, if_pos c44, if_neg c58, if_neg c70, if_pos c75, if_pos c99])  (by first | exact hB | exact Or.inr ⟨f, rfl, by omega⟩))
              · refine V_goto eX2_bestOf_102 ?_
                refine V_iconst (v := 1) (by decide) eX2_bestOf_129 ?_
                refine V_goto eX2_bestOf_130 ?_
                refine V_istore6 rfl eX2_bestOf_134 rfl ?_
                refine V_iload5 eX2_bestOf_136 ?_
                refine V_ifeq eX2_bestOf_138 (fun c138 => absurd c138 (by decide)) (fun c138 => ?_)
                refine V_iload6 eX2_bestOf_141 ?_
                refine V_ifeq eX2_bestOf_143 (fun c143 => absurd c143 (by decide)) (fun c143 => ?_)
                refine V_iload4 eX2_bestOf_146 ?_
                refine V_goto eX2_bestOf_148 ?_
                refine V_istore3 rfl eX2_bestOf_152 rfl ?_
                refine V_iincN4 rfl eX2_bestOf_153 rfl ?_
                refine V_goto eX2_bestOf_156 ?_
                exact V.le (zle_c (zle_c (zle_c (zle_c (zle_c (zle_n (zle_n zle_0))))))) (ih5 hl5 (nI f) (by rw [zfold_s (n := f), ← hq5]; simp only [K_bestOf_5, hbc, if_pos c29, if_pos c44, if_neg c58, if_neg c70, if_pos c75, if_neg c99])  (by first | exact hB | exact Or.inr ⟨f, rfl, by omega⟩))

theorem zfold_stop {α : Type} {f : Nat → α → α} {i n : Nat} {q a : α} (h : q = zfold f i a) (hs : ∀ j, f j q = q) (hi : i ≤ n) : q = zfold f n a := by
  obtain ⟨k, rfl⟩ : ∃ k, n = i + k := ⟨n - i, by omega⟩
  clear hi
  induction k with
  | zero => exact h
  | succ k ih =>
    show q = f (i + k) (zfold f (i + k) a)
    rw [← ih, hs]
def K_settles_480 (q356 : Int32 × (Nat → Int64)) : Nat → (Nat → Int64) → (Nat → Int64) := fun k q480 =>
    let t1 := va_up q480 k (q356.2 k)
    t1
def K_settles_372 (B : Nat → Nat → Int64) (a : Nat) (q31 : (Nat → Int64)) (q226 : (Nat → Int64) × (Nat → Int64)) (q341 : Int32 × (Nat → Int64) × (Nat → Int64)) (q356 : Int32 × (Nat → Int64)) : Nat → Int32 × (Nat → Int64) → Int32 × (Nat → Int64) := fun b q372 =>
    if (lg_cmp (q226.2 a) (0 : Int64)) = 0 then
      let t1 := va_up q372.2 ((20 * a) + b) (0 : Int64)
      if q372.1 = 0 then
        if (lg_cmp (t1 ((20 * a) + b)) (q341.2.1 ((20 * a) + b))) = 0 then
          ((0 : Int32), t1)
        else
          ((1 : Int32), t1)
      else
        ((1 : Int32), t1)
    else
      let t2 := va_up q372.2 ((20 * a) + b) (((o_canPay (va_up (va_up (va_up (va_up (va_up B 14 q31) 15 q341.2.1) 16 q356.2) 17 q226.1) 18 q226.2) a) * (q31 ((20 * a) + b))) / (q226.2 a))
      if q372.1 = 0 then
        if (lg_cmp (t2 ((20 * a) + b)) (q341.2.1 ((20 * a) + b))) = 0 then
          ((0 : Int32), t2)
        else
          ((1 : Int32), t2)
      else
        ((1 : Int32), t2)
def K_settles_356 (B : Nat → Nat → Int64) (q31 : (Nat → Int64)) (q226 : (Nat → Int64) × (Nat → Int64)) (q341 : Int32 × (Nat → Int64) × (Nat → Int64)) : Nat → Int32 × (Nat → Int64) → Int32 × (Nat → Int64) := fun a q356 =>
    let q372 := zfold (K_settles_372 B a q31 q226 q341 q356) 20 (q356.1, q356.2)
    (q372.1, q372.2)
def K_settles_341 (B : Nat → Nat → Int64) (q31 : (Nat → Int64)) (q226 : (Nat → Int64) × (Nat → Int64)) : Nat → Int32 × (Nat → Int64) × (Nat → Int64) → Int32 × (Nat → Int64) × (Nat → Int64) := fun r q341 =>
    if q341.1 = 0 then
      q341
    else
      let q356 := zfold (K_settles_356 B q31 q226 q341) 20 ((0 : Int32), q341.2.2)
      let q480 := zfold (K_settles_480 q356) 400 q341.2.1
      (q356.1, q480, q356.2)
def K_settles_299 (a : Nat) (q31 : (Nat → Int64)) : Nat → (Nat → Int64) → (Nat → Int64) := fun b q299 =>
    let t1 := va_up q299 a ((q299 a) + (q31 ((20 * a) + b)))
    t1
def K_settles_226 (S : Nat → Int32) (q31 : (Nat → Int64)) : Nat → (Nat → Int64) × (Nat → Int64) → (Nat → Int64) × (Nat → Int64) := fun a q226 =>
    if (8 : Int32) ≤ (nI a) then
      if (S 9) ≤ ((nI a) - (8 : Int32)) then
        let t1 := va_up q226.1 a (0 : Int64)
        let t2 := va_up q226.2 a (0 : Int64)
        let q299 := zfold (K_settles_299 a q31) 20 t2
        (t1, q299)
      else
        let t3 := va_up q226.1 a (S (11494 + a)).toInt64
        let t4 := va_up q226.2 a (0 : Int64)
        let q299 := zfold (K_settles_299 a q31) 20 t4
        (t3, q299)
    else
      let t5 := va_up q226.1 a (S (192 + a)).toInt64
      let t6 := va_up q226.2 a (0 : Int64)
      let q299 := zfold (K_settles_299 a q31) 20 t6
      (t5, q299)
def K_settles_85 (S : Nat → Int32) (p : Nat) : Nat → (Nat → Int64) → (Nat → Int64) := fun hh q85 =>
    let t1 := va_up q85 (((20 * hh) + 8) + (sI S (S (430 + p)))) ((q85 (((20 * hh) + 8) + (sI S (S (430 + p))))) + ((S (730 + p)) * (S ((11530 + (9 * (sI S (S (430 + p))))) + hh))).toInt64)
    t1
def K_settles_31 (S : Nat → Int32) : Nat → (Nat → Int64) → (Nat → Int64) := fun p q31 =>
    if (S (790 + p)) = 0 then
      if (S (370 + p)) = (4 : Int32) then
        let q85 := zfold (K_settles_85 S p) 8 q31
        if (S (370 + p)) = (5 : Int32) then
          let k := sn S (550 + p)
          let t1 := va_up q85 ((20 * (8 + (sI S (S (430 + p))))) + k) ((q85 ((20 * (8 + (sI S (S (430 + p))))) + k)) + (S (730 + p)).toInt64)
          t1
        else
          q85
      else
        if (S (370 + p)) = (5 : Int32) then
          let k := sn S (550 + p)
          let t2 := va_up q31 ((20 * (8 + (sI S (S (430 + p))))) + k) ((q31 ((20 * (8 + (sI S (S (430 + p))))) + k)) + (S (730 + p)).toInt64)
          t2
        else
          q31
    else
      q31
def K_settles_2  : Nat → (Nat → Int64) × (Nat → Int64) → (Nat → Int64) × (Nat → Int64) := fun k q2 =>
    let t1 := va_up q2.1 k (0 : Int64)
    let t2 := va_up q2.2 k (0 : Int64)
    (t1, t2)
def o_settles (S : Nat → Int32) (B : Nat → Nat → Int64) (np : Nat) : (Nat → Int64) × (Nat → Int64) × (Nat → Int64) × (Nat → Int64) × (Nat → Int64) :=
  let q2 := zfold (K_settles_2) 400 ((B 14), (B 15))
  let q31 := zfold (K_settles_31 S) np q2.1
  let q226 := zfold (K_settles_226 S q31) 20 ((B 17), (B 18))
  let q341 := zfold (K_settles_341 B q31 q226) 300 ((1 : Int32), q2.2, (B 16))
  (q31, q341.2.1, q341.2.2, q226.1, q226.2)
theorem c_settles {w : Wd} {h : Hp} {m : Nat} {ad : Nat → Nat} {A : Nat → Nat → Int32} {B : Nat → Nat → Int64} {F S : Nat → Int32} (mb : MB h m ad)  {np : Nat} (hnp : S 2 = nI np) (hnp60 : np ≤ 60) (hci : ∀ p, p < np → S (370 + p) = 4 ∨ S (370 + p) = 5 → ∃ i, i < 12 ∧ S (11490 + i) = S (430 + p)) (hlo : ∀ p, p < np → S (370 + p) = 5 → ∃ k, S (550 + p) = nI k ∧ k < 8) : Con w mX2_settles cX2_settles 2 0 0 [.ref m] (ms h A B F S) (Ru (ms h A (va_up (va_up (va_up (va_up (va_up B 14 (o_settles S B np).1) 15 (o_settles S B np).2.1) 16 (o_settles S B np).2.2.1) 17 (o_settles S B np).2.2.2.1) 18 (o_settles S B np).2.2.2.2) F S)) := by
  refine Con.of (by decide +kernel) rfl rfl ?_
  show V w mX2_settles cX2_settles 2 0 0 _ 0 [some (.ref m), none, none, none, none, none, none] [] _
  rw [ms_extB (show B = (va_up (va_up (va_up (va_up (va_up B 14 (B 14)) 15 (B 15)) 16 (B 16)) 17 (B 17)) 18 (B 18)) from by
    funext q
    by_cases e14 : q = 14
    · subst e14; rfl
    by_cases e15 : q = 15
    · subst e15; rfl
    by_cases e16 : q = 16
    · subst e16; rfl
    by_cases e17 : q = 17
    · subst e17; rfl
    by_cases e18 : q = 18
    · subst e18; rfl
    simp only [va_up, if_neg e14, if_neg e15, if_neg e16, if_neg e17, if_neg e18])]
  refine V_iconst (v := 0) (by decide) eX2_settles_0 ?_
  refine V_istore1 rfl eX2_settles_1 rfl ?_
  refine V.le (zle_c (zle_c (zle_n (zle_n (zle_n (zle_n (zle_n zle_0))))))) (zloop (P := fun k => ∀ q2 : (Nat → Int64) × (Nat → Int64), q2 = zfold (K_settles_2) k ((B 14), (B 15)) → V w mX2_settles cX2_settles 2 0 0 (ms h A (va_up (va_up (va_up (va_up (va_up B 14 q2.1) 15 q2.2) 16 (B 16)) 17 (B 17)) 18 (B 18)) F S) 2 [some (.ref m), some (.int (nI k)), none, none, none, none, none] [] _) 400 (fun k hk ih2 q2 hq2  => ?_) 0 (Nat.zero_le _) ((B 14), (B 15)) rfl )
  refine V_iload1 eX2_settles_2 ?_
  refine V_sipush (v := 400) (by decide) eX2_settles_3 ?_
  refine V_if_icmpge eX2_settles_6 (fun c6 => ?_) (fun c6 => ?_)
  · have e2 : k = 400 := by have := nle (a := 400) c6 (by omega) (by omega); omega
    rw [e2] at hq2
    refine V_iconst (v := 0) (by decide) eX2_settles_29 ?_
    refine V_istore1 rfl eX2_settles_30 rfl ?_
    refine V.le (zle_c (zle_c (zle_n (zle_n (zle_n (zle_n (zle_n zle_0))))))) (zloop (P := fun p => ∀ q31 : (Nat → Int64), q31 = zfold (K_settles_31 S) p q2.1 → V w mX2_settles cX2_settles 2 0 0 (ms h A (va_up (va_up (va_up (va_up (va_up B 14 q31) 15 q2.2) 16 (B 16)) 17 (B 17)) 18 (B 18)) F S) 31 [some (.ref m), some (.int (nI p)), none, none, none, none, none] [] _) np (fun p hp ih31 q31 hq31  => ?_) 0 (Nat.zero_le _) q2.1 rfl )
    refine V_iload1 eX2_settles_31 ?_
    refine V_aload0 eX2_settles_32 rfl ?_
    refine M_ga mb rfl eX2_settles_33 fl_X2_8_2 ?_
    refine V_iconst (v := 2) (by decide) eX2_settles_36 ?_
    refine M_sl (n := 2) mb rfl (by omega) hnp eX2_settles_37 ?_
    refine V_if_icmpge eX2_settles_38 (fun c38 => ?_) (fun c38 => ?_)
    · have e31 : p = np := by have := nle c38 (by omega) (by omega); omega
      rw [e31] at hq31
      refine V_iconst (v := 0) (by decide) eX2_settles_224 ?_
      refine V_istore1 rfl eX2_settles_225 rfl ?_
      refine V.le (zle_c (zle_c (zle_n (zle_n (zle_n (zle_n (zle_n zle_0))))))) (zloop (P := fun a => ∀ q226 : (Nat → Int64) × (Nat → Int64), q226 = zfold (K_settles_226 S q31) a ((B 17), (B 18)) → V w mX2_settles cX2_settles 2 0 0 (ms h A (va_up (va_up (va_up (va_up (va_up B 14 q31) 15 q2.2) 16 (B 16)) 17 q226.1) 18 q226.2) F S) 226 [some (.ref m), some (.int (nI a)), none, none, none, none, none] [] _) 20 (fun a ha ih226 q226 hq226  => ?_) 0 (Nat.zero_le _) ((B 17), (B 18)) rfl )
      refine V_iload1 eX2_settles_226 ?_
      refine V_bipush (v := 20) (by decide) eX2_settles_227 ?_
      refine V_if_icmpge eX2_settles_229 (fun c229 => ?_) (fun c229 => ?_)
      · have e226 : a = 20 := by have := nle (a := 20) c229 (by omega) (by omega); omega
        rw [e226] at hq226
        refine V_iconst (v := 1) (by decide) eX2_settles_337 ?_
        refine V_istore1 rfl eX2_settles_338 rfl ?_
        refine V_iconst (v := 0) (by decide) eX2_settles_339 ?_
        refine V_istore2 rfl eX2_settles_340 rfl ?_
        refine V.le (zle_c (zle_c (zle_c (zle_n (zle_n (zle_n (zle_n zle_0))))))) (zloop (P := fun r => ∀ q341 : Int32 × (Nat → Int64) × (Nat → Int64), q341 = zfold (K_settles_341 B q31 q226) r ((1 : Int32), q2.2, (B 16)) → V w mX2_settles cX2_settles 2 0 0 (ms h A (va_up (va_up (va_up (va_up (va_up B 14 q31) 15 q341.2.1) 16 q341.2.2) 17 q226.1) 18 q226.2) F S) 341 [some (.ref m), some (.int q341.1), some (.int (nI r)), none, none, none, none] [] _) 300 (fun r hr ih341 q341 hq341  => ?_) 0 (Nat.zero_le _) ((1 : Int32), q2.2, (B 16)) rfl )
        refine V_iload2 eX2_settles_341 ?_
        refine V_sipush (v := 300) (by decide) eX2_settles_342 ?_
        refine V_if_icmpge eX2_settles_345 (fun c345 => ?_) (fun c345 => ?_)
        · have e341 : r = 300 := by have := nle (a := 300) c345 (by omega) (by omega); omega
          rw [e341] at hq341
          have hE : (q31, q341.2.1, q341.2.2, q226.1, q226.2) = o_settles S B np := by simp only [o_settles, ← hq2, ← hq31, ← hq226, ← hq341]
          exact V_return (x := ()) eX2_settles_511 rfl (by rw [← hE]; exact ⟨rfl, rfl⟩)
        · have hl341 : r < 300 := by have := nnle (a := 300) c345 (by omega) (by omega); omega
          refine V_iload1 eX2_settles_348 ?_
          refine V_ifeq eX2_settles_349 (fun c349 => ?_) (fun c349 => ?_)
          · replace hq341 : q341 = zfold (K_settles_341 B q31 q226) 300 ((1 : Int32), q2.2, (B 16)) := zfold_stop hq341 (fun j => by simp only [K_settles_341, if_pos c349]) (by omega)
            have hE : (q31, q341.2.1, q341.2.2, q226.1, q226.2) = o_settles S B np := by simp only [o_settles, ← hq2, ← hq31, ← hq226, ← hq341]
            exact V_return (x := ()) eX2_settles_511 rfl (by rw [← hE]; exact ⟨rfl, rfl⟩)
          · refine V_iconst (v := 0) (by decide) eX2_settles_352 ?_
            refine V_istore1 rfl eX2_settles_353 rfl ?_
            refine V_iconst (v := 0) (by decide) eX2_settles_354 ?_
            refine V_istore3 rfl eX2_settles_355 rfl ?_
            refine V.le (zle_c (zle_c (zle_c (zle_c (zle_n (zle_n (zle_n zle_0))))))) (zloop (P := fun a => ∀ q356 : Int32 × (Nat → Int64), q356 = zfold (K_settles_356 B q31 q226 q341) a ((0 : Int32), q341.2.2) → V w mX2_settles cX2_settles 2 0 0 (ms h A (va_up (va_up (va_up (va_up (va_up B 14 q31) 15 q341.2.1) 16 q356.2) 17 q226.1) 18 q226.2) F S) 356 [some (.ref m), some (.int q356.1), some (.int (nI r)), some (.int (nI a)), none, none, none] [] _) 20 (fun a ha ih356 q356 hq356  => ?_) 0 (Nat.zero_le _) ((0 : Int32), q341.2.2) rfl )
            refine V_iload3 eX2_settles_356 ?_
            refine V_bipush (v := 20) (by decide) eX2_settles_357 ?_
            refine V_if_icmpge eX2_settles_359 (fun c359 => ?_) (fun c359 => ?_)
            · have e356 : a = 20 := by have := nle (a := 20) c359 (by omega) (by omega); omega
              rw [e356] at hq356
              refine V_iconst (v := 0) (by decide) eX2_settles_478 ?_
              refine V_istore3 rfl eX2_settles_479 rfl ?_
              refine V.le (zle_c (zle_c (zle_c (zle_c (zle_n (zle_n (zle_n zle_0))))))) (zloop (P := fun k => ∀ q480 : (Nat → Int64), q480 = zfold (K_settles_480 q356) k q341.2.1 → V w mX2_settles cX2_settles 2 0 0 (ms h A (va_up (va_up (va_up (va_up (va_up B 14 q31) 15 q480) 16 q356.2) 17 q226.1) 18 q226.2) F S) 480 [some (.ref m), some (.int q356.1), some (.int (nI r)), some (.int (nI k)), none, none, none] [] _) 400 (fun k hk ih480 q480 hq480  => ?_) 0 (Nat.zero_le _) q341.2.1 rfl )
              refine V_iload3 eX2_settles_480 ?_
              refine V_sipush (v := 400) (by decide) eX2_settles_481 ?_
              refine V_if_icmpge eX2_settles_484 (fun c484 => ?_) (fun c484 => ?_)
              · have e480 : k = 400 := by have := nle (a := 400) c484 (by omega) (by omega); omega
                rw [e480] at hq480
                refine V_iincN2 rfl eX2_settles_505 rfl ?_
                refine V_goto eX2_settles_508 ?_
                exact V.le (zle_c (zle_c (zle_c (zle_n (zle_n (zle_n (zle_n zle_0))))))) (ih341 hl341 (q356.1, q480, q356.2) (by rw [zfold_s (n := r), ← hq341]; simp only [K_settles_341, ← hq356, ← hq480, if_neg c349])  )
              · have hl480 : k < 400 := by have := nnle (a := 400) c484 (by omega) (by omega); omega
                refine V_aload0 eX2_settles_487 rfl ?_
                refine M_gb mb rfl eX2_settles_488 fl_X2_36_2 ?_
                refine V_iload3 eX2_settles_491 ?_
                refine V_aload0 eX2_settles_492 rfl ?_
                refine M_gb mb rfl eX2_settles_493 fl_X2_39_2 ?_
                refine V_iload3 eX2_settles_496 ?_
                refine M_bl (j := 16) (n := k) mb rfl rfl (by show _ < _; first | decide | (simp only [mlen]; omega)) (show _ = (q356.2 k) from rfl) eX2_settles_497 ?_
                refine M_bs (j := 15) (n := k) mb rfl rfl (by show _ < _; first | decide | (simp only [mlen]; omega)) eX2_settles_498 ?_
                obtain ⟨Q_1, hQ_1⟩ : ∃ T, T = va_up q480 k (q356.2 k) := ⟨_, rfl⟩
                rw [ms_extB (show va_up (va_up (va_up (va_up (va_up (va_up B 14 q31) 15 q480) 16 q356.2) 17 q226.1) 18 q226.2) 15 (va_up ((va_up (va_up (va_up (va_up (va_up B 14 q31) 15 q480) 16 q356.2) 17 q226.1) 18 q226.2) 15) k (q356.2 k)) = (va_up (va_up (va_up (va_up (va_up B 14 q31) 15 Q_1) 16 q356.2) 17 q226.1) 18 q226.2) from by
                    rw [hQ_1]; funext q
                    by_cases e14 : q = 14
                    · subst e14; rfl
                    by_cases e15 : q = 15
                    · subst e15; rfl
                    by_cases e16 : q = 16
                    · subst e16; rfl
                    by_cases e17 : q = 17
                    · subst e17; rfl
                    by_cases e18 : q = 18
                    · subst e18; rfl
                    simp only [va_up, if_neg e14, if_neg e15, if_neg e16, if_neg e17, if_neg e18])]
                refine V_iincN3 rfl eX2_settles_499 rfl ?_
                refine V_goto eX2_settles_502 ?_
                exact V.le (zle_c (zle_c (zle_c (zle_c (zle_n (zle_n (zle_n zle_0))))))) (ih480 hl480 Q_1 (by rw [zfold_s (n := k), ← hq480]; simp only [K_settles_480, ← hQ_1])  )
            · have hl356 : a < 20 := by have := nnle (a := 20) c359 (by omega) (by omega); omega
              refine V_aload0 eX2_settles_362 rfl ?_
              refine V_iload3 eX2_settles_363 ?_
              refine M_call mb eX2_settles_364 lmX2_canPay q2333 q2335 rfl qs92 (c_canPay mb a (by omega)) rfl rfl rfl rfl ?_
              refine V_lstore4 rfl eX2_settles_367 rfl ?_
              refine V_iconst (v := 0) (by decide) eX2_settles_369 ?_
              refine V_istore6 rfl eX2_settles_370 rfl ?_
              refine V.le (zle_c (zle_c (zle_c (zle_c (zle_c (zle_n (zle_c zle_0))))))) (zloop (P := fun b => ∀ q372 : Int32 × (Nat → Int64), q372 = zfold (K_settles_372 B a q31 q226 q341 q356) b (q356.1, q356.2) → V w mX2_settles cX2_settles 2 0 0 (ms h A (va_up (va_up (va_up (va_up (va_up B 14 q31) 15 q341.2.1) 16 q372.2) 17 q226.1) 18 q226.2) F S) 372 [some (.ref m), some (.int q372.1), some (.int (nI r)), some (.int (nI a)), some (.long (o_canPay (va_up (va_up (va_up (va_up (va_up B 14 q31) 15 q341.2.1) 16 q356.2) 17 q226.1) 18 q226.2) a)), none, some (.int (nI b))] [] _) 20 (fun b hb ih372 q372 hq372  => ?_) 0 (Nat.zero_le _) (q356.1, q356.2) rfl )
              refine V_iload6 eX2_settles_372 ?_
              refine V_bipush (v := 20) (by decide) eX2_settles_374 ?_
              refine V_if_icmpge eX2_settles_376 (fun c376 => ?_) (fun c376 => ?_)
              · have e372 : b = 20 := by have := nle (a := 20) c376 (by omega) (by omega); omega
                rw [e372] at hq372
                refine V_iincN3 rfl eX2_settles_472 rfl ?_
                refine V_goto eX2_settles_475 ?_
                exact V.le (zle_c (zle_c (zle_c (zle_c (zle_n (zle_n (zle_n zle_0))))))) (ih356 hl356 (q372.1, q372.2) (by rw [zfold_s (n := a), ← hq356]; simp only [K_settles_356, ← hq372])  )
              · have hl372 : b < 20 := by have := nnle (a := 20) c376 (by omega) (by omega); omega
                refine V_aload0 eX2_settles_379 rfl ?_
                refine M_gb mb rfl eX2_settles_380 fl_X2_39_2 ?_
                refine V_bipush (v := 20) (by decide) eX2_settles_383 ?_
                refine V_iload3 eX2_settles_385 ?_
                refine V_imul eX2_settles_386 ?_
                refine V_iload6 eX2_settles_387 ?_
                refine V_iadd eX2_settles_389 ?_
                refine V_aload0 eX2_settles_390 rfl ?_
                refine M_gb mb rfl eX2_settles_391 fl_X2_45_2 ?_
                refine V_iload3 eX2_settles_394 ?_
                refine M_bl (j := 18) (n := a) mb rfl rfl (by show _ < _; first | decide | (simp only [mlen]; omega)) (show _ = (q226.2 a) from rfl) eX2_settles_395 ?_
                refine V_lconst (v := 0) (by decide) eX2_settles_396 ?_
                refine V_lcmp eX2_settles_397 ?_
                refine V_ifne eX2_settles_398 (fun c398 => ?_) (fun c398 => ?_)
                · refine V_lload4 eX2_settles_405 ?_
                  refine V_aload0 eX2_settles_407 rfl ?_
                  refine M_gb mb rfl eX2_settles_408 fl_X2_32_2 ?_
                  refine V_bipush (v := 20) (by decide) eX2_settles_411 ?_
                  refine V_iload3 eX2_settles_413 ?_
                  refine V_imul eX2_settles_414 ?_
                  refine V_iload6 eX2_settles_415 ?_
                  refine V_iadd eX2_settles_417 ?_
                  refine M_bl (j := 14) (n := ((20 * a) + b)) mb rfl (zadd (zmul rfl rfl) rfl) (by show _ < _; first | decide | (simp only [mlen]; omega)) (show _ = (q31 ((20 * a) + b)) from rfl) eX2_settles_418 ?_
                  refine V_lmul eX2_settles_419 ?_
                  refine V_aload0 eX2_settles_420 rfl ?_
                  refine M_gb mb rfl eX2_settles_421 fl_X2_45_2 ?_
                  refine V_iload3 eX2_settles_424 ?_
                  refine M_bl (j := 18) (n := a) mb rfl rfl (by show _ < _; first | decide | (simp only [mlen]; omega)) (show _ = (q226.2 a) from rfl) eX2_settles_425 ?_
                  refine V_ldiv (fun q => c398 (by rw [q]; decide)) eX2_settles_426 ?_
                  refine M_bs (j := 16) (n := ((20 * a) + b)) mb rfl (zadd (zmul rfl rfl) rfl) (by show _ < _; first | decide | (simp only [mlen]; omega)) eX2_settles_427 ?_
                  obtain ⟨Q_2, hQ_2⟩ : ∃ T, T = va_up q372.2 ((20 * a) + b) (((o_canPay (va_up (va_up (va_up (va_up (va_up B 14 q31) 15 q341.2.1) 16 q356.2) 17 q226.1) 18 q226.2) a) * (q31 ((20 * a) + b))) / (q226.2 a)) := ⟨_, rfl⟩
                  rw [ms_extB (show va_up (va_up (va_up (va_up (va_up (va_up B 14 q31) 15 q341.2.1) 16 q372.2) 17 q226.1) 18 q226.2) 16 (va_up ((va_up (va_up (va_up (va_up (va_up B 14 q31) 15 q341.2.1) 16 q372.2) 17 q226.1) 18 q226.2) 16) ((20 * a) + b) (((o_canPay (va_up (va_up (va_up (va_up (va_up B 14 q31) 15 q341.2.1) 16 q356.2) 17 q226.1) 18 q226.2) a) * (q31 ((20 * a) + b))) / (q226.2 a))) = (va_up (va_up (va_up (va_up (va_up B 14 q31) 15 q341.2.1) 16 Q_2) 17 q226.1) 18 q226.2) from by
                      rw [hQ_2]; funext q
                      by_cases e14 : q = 14
                      · subst e14; rfl
                      by_cases e15 : q = 15
                      · subst e15; rfl
                      by_cases e16 : q = 16
                      · subst e16; rfl
                      by_cases e17 : q = 17
                      · subst e17; rfl
                      by_cases e18 : q = 18
                      · subst e18; rfl
                      simp only [va_up, if_neg e14, if_neg e15, if_neg e16, if_neg e17, if_neg e18])]
                  refine V_iload1 eX2_settles_428 ?_
                  refine V_ifne eX2_settles_429 (fun c429 => ?_) (fun c429 => ?_)
                  · refine V_iconst (v := 1) (by decide) eX2_settles_460 ?_
                    refine V_goto eX2_settles_461 ?_
                    refine V_istore1 rfl eX2_settles_465 rfl ?_
                    refine V_iincN6 rfl eX2_settles_466 rfl ?_
                    refine V_goto eX2_settles_469 ?_
                    exact V.le (zle_c (zle_c (zle_c (zle_c (zle_c (zle_n (zle_c zle_0))))))) (ih372 hl372 ((1 : Int32), Q_2) (by rw [zfold_s (n := b), ← hq372]; simp only [K_settles_372, ← hQ_2, if_neg c398, if_neg c429])  )
                  · refine V_aload0 eX2_settles_432 rfl ?_
                    refine M_gb mb rfl eX2_settles_433 fl_X2_39_2 ?_
                    refine V_bipush (v := 20) (by decide) eX2_settles_436 ?_
                    refine V_iload3 eX2_settles_438 ?_
                    refine V_imul eX2_settles_439 ?_
                    refine V_iload6 eX2_settles_440 ?_
                    refine V_iadd eX2_settles_442 ?_
                    refine M_bl (j := 16) (n := ((20 * a) + b)) mb rfl (zadd (zmul rfl rfl) rfl) (by show _ < _; first | decide | (simp only [mlen]; omega)) (show _ = (Q_2 ((20 * a) + b)) from rfl) eX2_settles_443 ?_
                    refine V_aload0 eX2_settles_444 rfl ?_
                    refine M_gb mb rfl eX2_settles_445 fl_X2_36_2 ?_
                    refine V_bipush (v := 20) (by decide) eX2_settles_448 ?_
                    refine V_iload3 eX2_settles_450 ?_
                    refine V_imul eX2_settles_451 ?_
                    refine V_iload6 eX2_settles_452 ?_
                    refine V_iadd eX2_settles_454 ?_
                    refine M_bl (j := 15) (n := ((20 * a) + b)) mb rfl (zadd (zmul rfl rfl) rfl) (by show _ < _; first | decide | (simp only [mlen]; omega)) (show _ = (q341.2.1 ((20 * a) + b)) from rfl) eX2_settles_455 ?_
                    refine V_lcmp eX2_settles_456 ?_
                    refine V_ifeq eX2_settles_457 (fun c457 => ?_) (fun c457 => ?_)
                    · refine V_iconst (v := 0) (by decide) eX2_settles_464 ?_
                      refine V_istore1 rfl eX2_settles_465 rfl ?_
                      refine V_iincN6 rfl eX2_settles_466 rfl ?_
                      refine V_goto eX2_settles_469 ?_
                      exact V.le (zle_c (zle_c (zle_c (zle_c (zle_c (zle_n (zle_c zle_0))))))) (ih372 hl372 ((0 : Int32), Q_2) (by rw [zfold_s (n := b), ← hq372]; simp only [K_settles_372, ← hQ_2, if_neg c398, if_pos c429, if_pos c457])  )
                    · refine V_iconst (v := 1) (by decide) eX2_settles_460 ?_
                      refine V_goto eX2_settles_461 ?_
                      refine V_istore1 rfl eX2_settles_465 rfl ?_
                      refine V_iincN6 rfl eX2_settles_466 rfl ?_
                      refine V_goto eX2_settles_469 ?_
                      exact V.le (zle_c (zle_c (zle_c (zle_c (zle_c (zle_n (zle_c zle_0))))))) (ih372 hl372 ((1 : Int32), Q_2) (by rw [zfold_s (n := b), ← hq372]; simp only [K_settles_372, ← hQ_2, if_neg c398, if_pos c429, if_neg c457])  )
                · refine V_lconst (v := 0) (by decide) eX2_settles_401 ?_
                  refine V_goto eX2_settles_402 ?_
                  refine M_bs (j := 16) (n := ((20 * a) + b)) mb rfl (zadd (zmul rfl rfl) rfl) (by show _ < _; first | decide | (simp only [mlen]; omega)) eX2_settles_427 ?_
                  obtain ⟨Q_3, hQ_3⟩ : ∃ T, T = va_up q372.2 ((20 * a) + b) (0 : Int64) := ⟨_, rfl⟩
                  rw [ms_extB (show va_up (va_up (va_up (va_up (va_up (va_up B 14 q31) 15 q341.2.1) 16 q372.2) 17 q226.1) 18 q226.2) 16 (va_up ((va_up (va_up (va_up (va_up (va_up B 14 q31) 15 q341.2.1) 16 q372.2) 17 q226.1) 18 q226.2) 16) ((20 * a) + b) (0 : Int64)) = (va_up (va_up (va_up (va_up (va_up B 14 q31) 15 q341.2.1) 16 Q_3) 17 q226.1) 18 q226.2) from by
                      rw [hQ_3]; funext q
                      by_cases e14 : q = 14
                      · subst e14; rfl
                      by_cases e15 : q = 15
                      · subst e15; rfl
                      by_cases e16 : q = 16
                      · subst e16; rfl
                      by_cases e17 : q = 17
                      · subst e17; rfl
                      by_cases e18 : q = 18
                      · subst e18; rfl
                      simp only [va_up, if_neg e14, if_neg e15, if_neg e16, if_neg e17, if_neg e18])]
                  refine V_iload1 eX2_settles_428 ?_
                  refine V_ifne eX2_settles_429 (fun c429 => ?_) (fun c429 => ?_)
                  · refine V_iconst (v := 1) (by decide) eX2_settles_460 ?_
                    refine V_goto eX2_settles_461 ?_
                    refine V_istore1 rfl eX2_settles_465 rfl ?_
                    refine V_iincN6 rfl eX2_settles_466 rfl ?_
                    refine V_goto eX2_settles_469 ?_
                    exact V.le (zle_c (zle_c (zle_c (zle_c (zle_c (zle_n (zle_c zle_0))))))) (ih372 hl372 ((1 : Int32), Q_3) (by rw [zfold_s (n := b), ← hq372]; simp only [K_settles_372, ← hQ_3, if_pos c398, if_neg c429])  )
                  · refine V_aload0 eX2_settles_432 rfl ?_
                    refine M_gb mb rfl eX2_settles_433 fl_X2_39_2 ?_
                    refine V_bipush (v := 20) (by decide) eX2_settles_436 ?_
                    refine V_iload3 eX2_settles_438 ?_
                    refine V_imul eX2_settles_439 ?_
                    refine V_iload6 eX2_settles_440 ?_
                    refine V_iadd eX2_settles_442 ?_
                    refine M_bl (j := 16) (n := ((20 * a) + b)) mb rfl (zadd (zmul rfl rfl) rfl) (by show _ < _; first | decide | (simp only [mlen]; omega)) (show _ = (Q_3 ((20 * a) + b)) from rfl) eX2_settles_443 ?_
                    refine V_aload0 eX2_settles_444 rfl ?_
                    refine M_gb mb rfl eX2_settles_445 fl_X2_36_2 ?_
                    refine V_bipush (v := 20) (by decide) eX2_settles_448 ?_
                    refine V_iload3 eX2_settles_450 ?_
                    refine V_imul eX2_settles_451 ?_
                    refine V_iload6 eX2_settles_452 ?_
                    refine V_iadd eX2_settles_454 ?_
                    refine M_bl (j := 15) (n := ((20 * a) + b)) mb rfl (zadd (zmul rfl rfl) rfl) (by show _ < _; first | decide | (simp only [mlen]; omega)) (show _ = (q341.2.1 ((20 * a) + b)) from rfl) eX2_settles_455 ?_
                    refine V_lcmp eX2_settles_456 ?_
                    refine V_ifeq eX2_settles_457 (fun c457 => ?_) (fun c457 => ?_)
                    · refine V_iconst (v := 0) (by decide) eX2_settles_464 ?_
                      refine V_istore1 rfl eX2_settles_465 rfl ?_
                      refine V_iincN6 rfl eX2_settles_466 rfl ?_
                      refine V_goto eX2_settles_469 ?_
                      exact V.le (zle_c (zle_c (zle_c (zle_c (zle_c (zle_n (zle_c zle_0))))))) (ih372 hl372 ((0 : Int32), Q_3) (by rw [zfold_s (n := b), ← hq372]; simp only [K_settles_372, ← hQ_3, if_pos c398, if_pos c429, if_pos c457])  )
                    · refine V_iconst (v := 1) (by decide) eX2_settles_460 ?_
                      refine V_goto eX2_settles_461 ?_
                      refine V_istore1 rfl eX2_settles_465 rfl ?_
                      refine V_iincN6 rfl eX2_settles_466 rfl ?_
                      refine V_goto eX2_settles_469 ?_
                      exact V.le (zle_c (zle_c (zle_c (zle_c (zle_c (zle_n (zle_c zle_0))))))) (ih372 hl372 ((1 : Int32), Q_3) (by rw [zfold_s (n := b), ← hq372]; simp only [K_settles_372, ← hQ_3, if_pos c398, if_pos c429, if_neg c457])  )
      · have hl226 : a < 20 := by have := nnle (a := 20) c229 (by omega) (by omega); omega
        refine V_aload0 eX2_settles_232 rfl ?_
        refine M_gb mb rfl eX2_settles_233 fl_X2_42_2 ?_
        refine V_iload1 eX2_settles_236 ?_
        refine V_iload1 eX2_settles_237 ?_
        refine V_bipush (v := 8) (by decide) eX2_settles_238 ?_
        refine V_if_icmpge eX2_settles_240 (fun c240 => ?_) (fun c240 => ?_)
        · refine V_iload1 eX2_settles_257 ?_
          refine V_bipush (v := 8) (by decide) eX2_settles_258 ?_
          refine V_isub eX2_settles_260 ?_
          refine V_aload0 eX2_settles_261 rfl ?_
          refine M_ga mb rfl eX2_settles_262 fl_X2_8_2 ?_
          refine V_bipush (v := 9) (by decide) eX2_settles_265 ?_
          refine M_sl (n := 9) mb rfl (by omega) rfl eX2_settles_267 ?_
          refine V_if_icmpge eX2_settles_268 (fun c268 => ?_) (fun c268 => ?_)
          · refine V_lconst (v := 0) (by decide) eX2_settles_288 ?_
            refine M_bs (j := 17) (n := a) mb rfl rfl (by show _ < _; first | decide | (simp only [mlen]; omega)) eX2_settles_289 ?_
            obtain ⟨Q_4, hQ_4⟩ : ∃ T, T = va_up q226.1 a (0 : Int64) := ⟨_, rfl⟩
            rw [ms_extB (show va_up (va_up (va_up (va_up (va_up (va_up B 14 q31) 15 q2.2) 16 (B 16)) 17 q226.1) 18 q226.2) 17 (va_up ((va_up (va_up (va_up (va_up (va_up B 14 q31) 15 q2.2) 16 (B 16)) 17 q226.1) 18 q226.2) 17) a (0 : Int64)) = (va_up (va_up (va_up (va_up (va_up B 14 q31) 15 q2.2) 16 (B 16)) 17 Q_4) 18 q226.2) from by
                rw [hQ_4]; funext q
                by_cases e14 : q = 14
                · subst e14; rfl
                by_cases e15 : q = 15
                · subst e15; rfl
                by_cases e16 : q = 16
                · subst e16; rfl
                by_cases e17 : q = 17
                · subst e17; rfl
                by_cases e18 : q = 18
                · subst e18; rfl
                simp only [va_up, if_neg e14, if_neg e15, if_neg e16, if_neg e17, if_neg e18])]
            refine V_aload0 eX2_settles_290 rfl ?_
            refine M_gb mb rfl eX2_settles_291 fl_X2_45_2 ?_
            refine V_iload1 eX2_settles_294 ?_
            refine V_lconst (v := 0) (by decide) eX2_settles_295 ?_
            refine M_bs (j := 18) (n := a) mb rfl rfl (by show _ < _; first | decide | (simp only [mlen]; omega)) eX2_settles_296 ?_
            obtain ⟨Q_5, hQ_5⟩ : ∃ T, T = va_up q226.2 a (0 : Int64) := ⟨_, rfl⟩
            rw [ms_extB (show va_up (va_up (va_up (va_up (va_up (va_up B 14 q31) 15 q2.2) 16 (B 16)) 17 Q_4) 18 q226.2) 18 (va_up ((va_up (va_up (va_up (va_up (va_up B 14 q31) 15 q2.2) 16 (B 16)) 17 Q_4) 18 q226.2) 18) a (0 : Int64)) = (va_up (va_up (va_up (va_up (va_up B 14 q31) 15 q2.2) 16 (B 16)) 17 Q_4) 18 Q_5) from by
                rw [hQ_5]; funext q
                by_cases e14 : q = 14
                · subst e14; rfl
                by_cases e15 : q = 15
                · subst e15; rfl
                by_cases e16 : q = 16
                · subst e16; rfl
                by_cases e17 : q = 17
                · subst e17; rfl
                by_cases e18 : q = 18
                · subst e18; rfl
                simp only [va_up, if_neg e14, if_neg e15, if_neg e16, if_neg e17, if_neg e18])]
            refine V_iconst (v := 0) (by decide) eX2_settles_297 ?_
            refine V_istore2 rfl eX2_settles_298 rfl ?_
            refine V.le (zle_c (zle_c (zle_c (zle_n (zle_n (zle_n (zle_n zle_0))))))) (zloop (P := fun b => ∀ q299 : (Nat → Int64), q299 = zfold (K_settles_299 a q31) b Q_5 → V w mX2_settles cX2_settles 2 0 0 (ms h A (va_up (va_up (va_up (va_up (va_up B 14 q31) 15 q2.2) 16 (B 16)) 17 Q_4) 18 q299) F S) 299 [some (.ref m), some (.int (nI a)), some (.int (nI b)), none, none, none, none] [] _) 20 (fun b hb ih299 q299 hq299  => ?_) 0 (Nat.zero_le _) Q_5 rfl )
            refine V_iload2 eX2_settles_299 ?_
            refine V_bipush (v := 20) (by decide) eX2_settles_300 ?_
            refine V_if_icmpge eX2_settles_302 (fun c302 => ?_) (fun c302 => ?_)
            · have e299 : b = 20 := by have := nle (a := 20) c302 (by omega) (by omega); omega
              rw [e299] at hq299
              refine V_iincN1 rfl eX2_settles_331 rfl ?_
              refine V_goto eX2_settles_334 ?_
              exact V.le (zle_c (zle_c (zle_n (zle_n (zle_n (zle_n (zle_n zle_0))))))) (ih226 hl226 (Q_4, q299) (by rw [zfold_s (n := a), ← hq226]; simp only [K_settles_226, ← hQ_4, ← hQ_5, ← hq299, if_pos c240, if_pos c268])  )
            · have hl299 : b < 20 := by have := nnle (a := 20) c302 (by omega) (by omega); omega
              refine V_aload0 eX2_settles_305 rfl ?_
              refine M_gb mb rfl eX2_settles_306 fl_X2_45_2 ?_
              refine V_iload1 eX2_settles_309 ?_
              refine V_dup2 rfl rfl eX2_settles_310 ?_
              refine M_bl (j := 18) (n := a) mb rfl rfl (by show _ < _; first | decide | (simp only [mlen]; omega)) (show _ = (q299 a) from rfl) eX2_settles_311 ?_
              refine V_aload0 eX2_settles_312 rfl ?_
              refine M_gb mb rfl eX2_settles_313 fl_X2_32_2 ?_
              refine V_bipush (v := 20) (by decide) eX2_settles_316 ?_
              refine V_iload1 eX2_settles_318 ?_
              refine V_imul eX2_settles_319 ?_
              refine V_iload2 eX2_settles_320 ?_
              refine V_iadd eX2_settles_321 ?_
              refine M_bl (j := 14) (n := ((20 * a) + b)) mb rfl (zadd (zmul rfl rfl) rfl) (by show _ < _; first | decide | (simp only [mlen]; omega)) (show _ = (q31 ((20 * a) + b)) from rfl) eX2_settles_322 ?_
              refine V_ladd eX2_settles_323 ?_
              refine M_bs (j := 18) (n := a) mb rfl rfl (by show _ < _; first | decide | (simp only [mlen]; omega)) eX2_settles_324 ?_
              obtain ⟨Q_6, hQ_6⟩ : ∃ T, T = va_up q299 a ((q299 a) + (q31 ((20 * a) + b))) := ⟨_, rfl⟩
              rw [ms_extB (show va_up (va_up (va_up (va_up (va_up (va_up B 14 q31) 15 q2.2) 16 (B 16)) 17 Q_4) 18 q299) 18 (va_up ((va_up (va_up (va_up (va_up (va_up B 14 q31) 15 q2.2) 16 (B 16)) 17 Q_4) 18 q299) 18) a ((q299 a) + (q31 ((20 * a) + b)))) = (va_up (va_up (va_up (va_up (va_up B 14 q31) 15 q2.2) 16 (B 16)) 17 Q_4) 18 Q_6) from by
                  rw [hQ_6]; funext q
                  by_cases e14 : q = 14
                  · subst e14; rfl
                  by_cases e15 : q = 15
                  · subst e15; rfl
                  by_cases e16 : q = 16
                  · subst e16; rfl
                  by_cases e17 : q = 17
                  · subst e17; rfl
                  by_cases e18 : q = 18
                  · subst e18; rfl
                  simp only [va_up, if_neg e14, if_neg e15, if_neg e16, if_neg e17, if_neg e18])]
              refine V_iincN2 rfl eX2_settles_325 rfl ?_
              refine V_goto eX2_settles_328 ?_
              exact V.le (zle_c (zle_c (zle_c (zle_n (zle_n (zle_n (zle_n zle_0))))))) (ih299 hl299 Q_6 (by rw [zfold_s (n := b), ← hq299]; simp only [K_settles_299, ← hQ_6])  )
          · refine V_aload0 eX2_settles_271 rfl ?_
            refine M_ga mb rfl eX2_settles_272 fl_X2_8_2 ?_
            refine V_sipush (v := 11502) (by decide) eX2_settles_275 ?_
            refine V_iload1 eX2_settles_278 ?_
            refine V_iadd eX2_settles_279 ?_
            refine V_bipush (v := 8) (by decide) eX2_settles_280 ?_
            refine V_isub eX2_settles_282 ?_
            refine M_sl (n := (11494 + a)) mb (zsubm (n := 11494 + a) (m := 8) ((show _ = nI (11502 + a) from zadd rfl rfl).trans (congrArg nI (by omega))) rfl) (by omega) rfl eX2_settles_283 ?_
            refine V_i2l eX2_settles_284 ?_
            refine V_goto eX2_settles_285 ?_
            refine M_bs (j := 17) (n := a) mb rfl rfl (by show _ < _; first | decide | (simp only [mlen]; omega)) eX2_settles_289 ?_
            obtain ⟨Q_7, hQ_7⟩ : ∃ T, T = va_up q226.1 a (S (11494 + a)).toInt64 := ⟨_, rfl⟩
            rw [ms_extB (show va_up (va_up (va_up (va_up (va_up (va_up B 14 q31) 15 q2.2) 16 (B 16)) 17 q226.1) 18 q226.2) 17 (va_up ((va_up (va_up (va_up (va_up (va_up B 14 q31) 15 q2.2) 16 (B 16)) 17 q226.1) 18 q226.2) 17) a (S (11494 + a)).toInt64) = (va_up (va_up (va_up (va_up (va_up B 14 q31) 15 q2.2) 16 (B 16)) 17 Q_7) 18 q226.2) from by
                rw [hQ_7]; funext q
                by_cases e14 : q = 14
                · subst e14; rfl
                by_cases e15 : q = 15
                · subst e15; rfl
                by_cases e16 : q = 16
                · subst e16; rfl
                by_cases e17 : q = 17
                · subst e17; rfl
                by_cases e18 : q = 18
                · subst e18; rfl
                simp only [va_up, if_neg e14, if_neg e15, if_neg e16, if_neg e17, if_neg e18])]
            refine V_aload0 eX2_settles_290 rfl ?_
            refine M_gb mb rfl eX2_settles_291 fl_X2_45_2 ?_
            refine V_iload1 eX2_settles_294 ?_
            refine V_lconst (v := 0) (by decide) eX2_settles_295 ?_
            refine M_bs (j := 18) (n := a) mb rfl rfl (by show _ < _; first | decide | (simp only [mlen]; omega)) eX2_settles_296 ?_
            obtain ⟨Q_8, hQ_8⟩ : ∃ T, T = va_up q226.2 a (0 : Int64) := ⟨_, rfl⟩
            rw [ms_extB (show va_up (va_up (va_up (va_up (va_up (va_up B 14 q31) 15 q2.2) 16 (B 16)) 17 Q_7) 18 q226.2) 18 (va_up ((va_up (va_up (va_up (va_up (va_up B 14 q31) 15 q2.2) 16 (B 16)) 17 Q_7) 18 q226.2) 18) a (0 : Int64)) = (va_up (va_up (va_up (va_up (va_up B 14 q31) 15 q2.2) 16 (B 16)) 17 Q_7) 18 Q_8) from by
                rw [hQ_8]; funext q
                by_cases e14 : q = 14
                · subst e14; rfl
                by_cases e15 : q = 15
                · subst e15; rfl
                by_cases e16 : q = 16
                · subst e16; rfl
                by_cases e17 : q = 17
                · subst e17; rfl
                by_cases e18 : q = 18
                · subst e18; rfl
                simp only [va_up, if_neg e14, if_neg e15, if_neg e16, if_neg e17, if_neg e18])]
            refine V_iconst (v := 0) (by decide) eX2_settles_297 ?_
            refine V_istore2 rfl eX2_settles_298 rfl ?_
            refine V.le (zle_c (zle_c (zle_c (zle_n (zle_n (zle_n (zle_n zle_0))))))) (zloop (P := fun b => ∀ q299 : (Nat → Int64), q299 = zfold (K_settles_299 a q31) b Q_8 → V w mX2_settles cX2_settles 2 0 0 (ms h A (va_up (va_up (va_up (va_up (va_up B 14 q31) 15 q2.2) 16 (B 16)) 17 Q_7) 18 q299) F S) 299 [some (.ref m), some (.int (nI a)), some (.int (nI b)), none, none, none, none] [] _) 20 (fun b hb ih299 q299 hq299  => ?_) 0 (Nat.zero_le _) Q_8 rfl )
            refine V_iload2 eX2_settles_299 ?_
            refine V_bipush (v := 20) (by decide) eX2_settles_300 ?_
            refine V_if_icmpge eX2_settles_302 (fun c302 => ?_) (fun c302 => ?_)
            · have e299 : b = 20 := by have := nle (a := 20) c302 (by omega) (by omega); omega
              rw [e299] at hq299
              refine V_iincN1 rfl eX2_settles_331 rfl ?_
              refine V_goto eX2_settles_334 ?_
              exact V.le (zle_c (zle_c (zle_n (zle_n (zle_n (zle_n (zle_n zle_0))))))) (ih226 hl226 (Q_7, q299) (by rw [zfold_s (n := a), ← hq226]; simp only [K_settles_226, ← hQ_7, ← hQ_8, ← hq299, if_pos c240, if_neg c268])  )
            · have hl299 : b < 20 := by have := nnle (a := 20) c302 (by omega) (by omega); omega
              refine V_aload0 eX2_settles_305 rfl ?_
              refine M_gb mb rfl eX2_settles_306 fl_X2_45_2 ?_
              refine V_iload1 eX2_settles_309 ?_
              refine V_dup2 rfl rfl eX2_settles_310 ?_
              refine M_bl (j := 18) (n := a) mb rfl rfl (by show _ < _; first | decide | (simp only [mlen]; omega)) (show _ = (q299 a) from rfl) eX2_settles_311 ?_
              refine V_aload0 eX2_settles_312 rfl ?_
              refine M_gb mb rfl eX2_settles_313 fl_X2_32_2 ?_
              refine V_bipush (v := 20) (by decide) eX2_settles_316 ?_
              refine V_iload1 eX2_settles_318 ?_
              refine V_imul eX2_settles_319 ?_
              refine V_iload2 eX2_settles_320 ?_
              refine V_iadd eX2_settles_321 ?_
              refine M_bl (j := 14) (n := ((20 * a) + b)) mb rfl (zadd (zmul rfl rfl) rfl) (by show _ < _; first | decide | (simp only [mlen]; omega)) (show _ = (q31 ((20 * a) + b)) from rfl) eX2_settles_322 ?_
              refine V_ladd eX2_settles_323 ?_
              refine M_bs (j := 18) (n := a) mb rfl rfl (by show _ < _; first | decide | (simp only [mlen]; omega)) eX2_settles_324 ?_
              obtain ⟨Q_9, hQ_9⟩ : ∃ T, T = va_up q299 a ((q299 a) + (q31 ((20 * a) + b))) := ⟨_, rfl⟩
              rw [ms_extB (show va_up (va_up (va_up (va_up (va_up (va_up B 14 q31) 15 q2.2) 16 (B 16)) 17 Q_7) 18 q299) 18 (va_up ((va_up (va_up (va_up (va_up (va_up B 14 q31) 15 q2.2) 16 (B 16)) 17 Q_7) 18 q299) 18) a ((q299 a) + (q31 ((20 * a) + b)))) = (va_up (va_up (va_up (va_up (va_up B 14 q31) 15 q2.2) 16 (B 16)) 17 Q_7) 18 Q_9) from by
                  rw [hQ_9]; funext q
                  by_cases e14 : q = 14
                  · subst e14; rfl
                  by_cases e15 : q = 15
                  · subst e15; rfl
                  by_cases e16 : q = 16
                  · subst e16; rfl
                  by_cases e17 : q = 17
                  · subst e17; rfl
                  by_cases e18 : q = 18
                  · subst e18; rfl
                  simp only [va_up, if_neg e14, if_neg e15, if_neg e16, if_neg e17, if_neg e18])]
              refine V_iincN2 rfl eX2_settles_325 rfl ?_
              refine V_goto eX2_settles_328 ?_
              exact V.le (zle_c (zle_c (zle_c (zle_n (zle_n (zle_n (zle_n zle_0))))))) (ih299 hl299 Q_9 (by rw [zfold_s (n := b), ← hq299]; simp only [K_settles_299, ← hQ_9])  )
        · refine V_aload0 eX2_settles_243 rfl ?_
          refine M_ga mb rfl eX2_settles_244 fl_X2_8_2 ?_
          refine V_sipush (v := 192) (by decide) eX2_settles_247 ?_
          refine V_iload1 eX2_settles_250 ?_
          refine V_iadd eX2_settles_251 ?_
          refine M_sl (n := (192 + a)) mb (zadd rfl rfl) (by omega) rfl eX2_settles_252 ?_
          refine V_i2l eX2_settles_253 ?_
          refine V_goto eX2_settles_254 ?_
          refine M_bs (j := 17) (n := a) mb rfl rfl (by show _ < _; first | decide | (simp only [mlen]; omega)) eX2_settles_289 ?_
          obtain ⟨Q_10, hQ_10⟩ : ∃ T, T = va_up q226.1 a (S (192 + a)).toInt64 := ⟨_, rfl⟩
          rw [ms_extB (show va_up (va_up (va_up (va_up (va_up (va_up B 14 q31) 15 q2.2) 16 (B 16)) 17 q226.1) 18 q226.2) 17 (va_up ((va_up (va_up (va_up (va_up (va_up B 14 q31) 15 q2.2) 16 (B 16)) 17 q226.1) 18 q226.2) 17) a (S (192 + a)).toInt64) = (va_up (va_up (va_up (va_up (va_up B 14 q31) 15 q2.2) 16 (B 16)) 17 Q_10) 18 q226.2) from by
              rw [hQ_10]; funext q
              by_cases e14 : q = 14
              · subst e14; rfl
              by_cases e15 : q = 15
              · subst e15; rfl
              by_cases e16 : q = 16
              · subst e16; rfl
              by_cases e17 : q = 17
              · subst e17; rfl
              by_cases e18 : q = 18
              · subst e18; rfl
              simp only [va_up, if_neg e14, if_neg e15, if_neg e16, if_neg e17, if_neg e18])]
          refine V_aload0 eX2_settles_290 rfl ?_
          refine M_gb mb rfl eX2_settles_291 fl_X2_45_2 ?_
          refine V_iload1 eX2_settles_294 ?_
          refine V_lconst (v := 0) (by decide) eX2_settles_295 ?_
          refine M_bs (j := 18) (n := a) mb rfl rfl (by show _ < _; first | decide | (simp only [mlen]; omega)) eX2_settles_296 ?_
          obtain ⟨Q_11, hQ_11⟩ : ∃ T, T = va_up q226.2 a (0 : Int64) := ⟨_, rfl⟩
          rw [ms_extB (show va_up (va_up (va_up (va_up (va_up (va_up B 14 q31) 15 q2.2) 16 (B 16)) 17 Q_10) 18 q226.2) 18 (va_up ((va_up (va_up (va_up (va_up (va_up B 14 q31) 15 q2.2) 16 (B 16)) 17 Q_10) 18 q226.2) 18) a (0 : Int64)) = (va_up (va_up (va_up (va_up (va_up B 14 q31) 15 q2.2) 16 (B 16)) 17 Q_10) 18 Q_11) from by
              rw [hQ_11]; funext q
              by_cases e14 : q = 14
              · subst e14; rfl
              by_cases e15 : q = 15
              · subst e15; rfl
              by_cases e16 : q = 16
              · subst e16; rfl
              by_cases e17 : q = 17
              · subst e17; rfl
              by_cases e18 : q = 18
              · subst e18; rfl
              simp only [va_up, if_neg e14, if_neg e15, if_neg e16, if_neg e17, if_neg e18])]
          refine V_iconst (v := 0) (by decide) eX2_settles_297 ?_
          refine V_istore2 rfl eX2_settles_298 rfl ?_
          refine V.le (zle_c (zle_c (zle_c (zle_n (zle_n (zle_n (zle_n zle_0))))))) (zloop (P := fun b => ∀ q299 : (Nat → Int64), q299 = zfold (K_settles_299 a q31) b Q_11 → V w mX2_settles cX2_settles 2 0 0 (ms h A (va_up (va_up (va_up (va_up (va_up B 14 q31) 15 q2.2) 16 (B 16)) 17 Q_10) 18 q299) F S) 299 [some (.ref m), some (.int (nI a)), some (.int (nI b)), none, none, none, none] [] _) 20 (fun b hb ih299 q299 hq299  => ?_) 0 (Nat.zero_le _) Q_11 rfl )
          refine V_iload2 eX2_settles_299 ?_
          refine V_bipush (v := 20) (by decide) eX2_settles_300 ?_
          refine V_if_icmpge eX2_settles_302 (fun c302 => ?_) (fun c302 => ?_)
          · have e299 : b = 20 := by have := nle (a := 20) c302 (by omega) (by omega); omega
            rw [e299] at hq299
            refine V_iincN1 rfl eX2_settles_331 rfl ?_
            refine V_goto eX2_settles_334 ?_
            exact V.le (zle_c (zle_c (zle_n (zle_n (zle_n (zle_n (zle_n zle_0))))))) (ih226 hl226 (Q_10, q299) (by rw [zfold_s (n := a), ← hq226]; simp only [K_settles_226, ← hQ_10, ← hQ_11, ← hq299, if_neg c240])  )
          · have hl299 : b < 20 := by have := nnle (a := 20) c302 (by omega) (by omega); omega
            refine V_aload0 eX2_settles_305 rfl ?_
            refine M_gb mb rfl eX2_settles_306 fl_X2_45_2 ?_
            refine V_iload1 eX2_settles_309 ?_
            refine V_dup2 rfl rfl eX2_settles_310 ?_
            refine M_bl (j := 18) (n := a) mb rfl rfl (by show _ < _; first | decide | (simp only [mlen]; omega)) (show _ = (q299 a) from rfl) eX2_settles_311 ?_
            refine V_aload0 eX2_settles_312 rfl ?_
            refine M_gb mb rfl eX2_settles_313 fl_X2_32_2 ?_
            refine V_bipush (v := 20) (by decide) eX2_settles_316 ?_
            refine V_iload1 eX2_settles_318 ?_
            refine V_imul eX2_settles_319 ?_
            refine V_iload2 eX2_settles_320 ?_
            refine V_iadd eX2_settles_321 ?_
            refine M_bl (j := 14) (n := ((20 * a) + b)) mb rfl (zadd (zmul rfl rfl) rfl) (by show _ < _; first | decide | (simp only [mlen]; omega)) (show _ = (q31 ((20 * a) + b)) from rfl) eX2_settles_322 ?_
            refine V_ladd eX2_settles_323 ?_
            refine M_bs (j := 18) (n := a) mb rfl rfl (by show _ < _; first | decide | (simp only [mlen]; omega)) eX2_settles_324 ?_
            obtain ⟨Q_12, hQ_12⟩ : ∃ T, T = va_up q299 a ((q299 a) + (q31 ((20 * a) + b))) := ⟨_, rfl⟩
            rw [ms_extB (show va_up (va_up (va_up (va_up (va_up (va_up B 14 q31) 15 q2.2) 16 (B 16)) 17 Q_10) 18 q299) 18 (va_up ((va_up (va_up (va_up (va_up (va_up B 14 q31) 15 q2.2) 16 (B 16)) 17 Q_10) 18 q299) 18) a ((q299 a) + (q31 ((20 * a) + b)))) = (va_up (va_up (va_up (va_up (va_up B 14 q31) 15 q2.2) 16 (B 16)) 17 Q_10) 18 Q_12) from by
                rw [hQ_12]; funext q
                by_cases e14 : q = 14
                · subst e14; rfl
                by_cases e15 : q = 15
                · subst e15; rfl
                by_cases e16 : q = 16
                · subst e16; rfl
                by_cases e17 : q = 17
                · subst e17; rfl
                by_cases e18 : q = 18
                · subst e18; rfl
                simp only [va_up, if_neg e14, if_neg e15, if_neg e16, if_neg e17, if_neg e18])]
            refine V_iincN2 rfl eX2_settles_325 rfl ?_
            refine V_goto eX2_settles_328 ?_
            exact V.le (zle_c (zle_c (zle_c (zle_n (zle_n (zle_n (zle_n zle_0))))))) (ih299 hl299 Q_12 (by rw [zfold_s (n := b), ← hq299]; simp only [K_settles_299, ← hQ_12])  )
    · have hl31 : p < np := by have := nnle c38 (by omega) (by omega); omega
      refine V_aload0 eX2_settles_41 rfl ?_
      refine M_ga mb rfl eX2_settles_42 fl_X2_8_2 ?_
      refine V_sipush (v := 790) (by decide) eX2_settles_45 ?_
      refine V_iload1 eX2_settles_48 ?_
      refine V_iadd eX2_settles_49 ?_
      refine M_sl (n := (790 + p)) mb (zadd rfl rfl) (by omega) rfl eX2_settles_50 ?_
      refine V_ifne eX2_settles_51 (fun c51 => ?_) (fun c51 => ?_)
      · refine V_aload0 eX2_settles_141 rfl ?_
        refine M_ga mb rfl eX2_settles_142 fl_X2_8_2 ?_
        refine V_sipush (v := 790) (by decide) eX2_settles_145 ?_
        refine V_iload1 eX2_settles_148 ?_
        refine V_iadd eX2_settles_149 ?_
        refine M_sl (n := (790 + p)) mb (zadd rfl rfl) (by omega) rfl eX2_settles_150 ?_
        refine V_ifne eX2_settles_151 (fun c151 => ?_) (fun c151 => absurd c151 c51)
        refine V_iincN1 rfl eX2_settles_218 rfl ?_
        refine V_goto eX2_settles_221 ?_
        exact V.le (zle_c (zle_c (zle_n (zle_n (zle_n (zle_n (zle_n zle_0))))))) (ih31 hl31 q31 (by rw [zfold_s (n := p), ← hq31]; simp only [K_settles_31, if_neg c51])  )
      · refine V_aload0 eX2_settles_54 rfl ?_
        refine M_ga mb rfl eX2_settles_55 fl_X2_8_2 ?_
        refine V_sipush (v := 370) (by decide) eX2_settles_58 ?_
        refine V_iload1 eX2_settles_61 ?_
        refine V_iadd eX2_settles_62 ?_
        refine M_sl (n := (370 + p)) mb (zadd rfl rfl) (by omega) rfl eX2_settles_63 ?_
        refine V_iconst (v := 4) (by decide) eX2_settles_64 ?_
        refine V_if_icmpne eX2_settles_65 (fun c65 => ?_) (fun c65 => ?_)
        · refine V_aload0 eX2_settles_141 rfl ?_
          refine M_ga mb rfl eX2_settles_142 fl_X2_8_2 ?_
          refine V_sipush (v := 790) (by decide) eX2_settles_145 ?_
          refine V_iload1 eX2_settles_148 ?_
          refine V_iadd eX2_settles_149 ?_
          refine M_sl (n := (790 + p)) mb (zadd rfl rfl) (by omega) rfl eX2_settles_150 ?_
          refine V_ifne eX2_settles_151 (fun c151 => absurd c51 c151) (fun c151 => ?_)
          refine V_aload0 eX2_settles_154 rfl ?_
          refine M_ga mb rfl eX2_settles_155 fl_X2_8_2 ?_
          refine V_sipush (v := 370) (by decide) eX2_settles_158 ?_
          refine V_iload1 eX2_settles_161 ?_
          refine V_iadd eX2_settles_162 ?_
          refine M_sl (n := (370 + p)) mb (zadd rfl rfl) (by omega) rfl eX2_settles_163 ?_
          refine V_iconst (v := 5) (by decide) eX2_settles_164 ?_
          refine V_if_icmpne eX2_settles_165 (fun c165 => ?_) (fun c165 => ?_)
          · refine V_iincN1 rfl eX2_settles_218 rfl ?_
            refine V_goto eX2_settles_221 ?_
            exact V.le (zle_c (zle_c (zle_n (zle_n (zle_n (zle_n (zle_n zle_0))))))) (ih31 hl31 q31 (by rw [zfold_s (n := p), ← hq31]; simp only [K_settles_31, if_pos c51, if_neg c65, if_neg c165])  )
          · obtain ⟨k, hk1, hk2⟩ := hlo p hl31 c165
            have hk : sn S (550 + p) = k := sn_of hk1 (by omega)
            have hsI := (sI_lt (Nat.le_refl 12) (hci p hl31 (Or.inr c165))).1
            refine V_aload0 eX2_settles_168 rfl ?_
            refine M_gb mb rfl eX2_settles_169 fl_X2_32_2 ?_
            refine V_bipush (v := 20) (by decide) eX2_settles_172 ?_
            refine V_bipush (v := 8) (by decide) eX2_settles_174 ?_
            refine V_aload0 eX2_settles_176 rfl ?_
            refine V_aload0 eX2_settles_177 rfl ?_
            refine M_ga mb rfl eX2_settles_178 fl_X2_8_2 ?_
            refine V_sipush (v := 430) (by decide) eX2_settles_181 ?_
            refine V_iload1 eX2_settles_184 ?_
            refine V_iadd eX2_settles_185 ?_
            refine M_sl (n := (430 + p)) mb (zadd rfl rfl) (by omega) rfl eX2_settles_186 ?_
            refine M_call mb eX2_settles_187 lmX2_indexOf q2289 q2291 rfl qs89 (c_indexOf mb (hci p hl31 (Or.inr c165))) rfl rfl rfl rfl ?_
            refine V_iadd eX2_settles_190 ?_
            refine V_imul eX2_settles_191 ?_
            refine V_aload0 eX2_settles_192 rfl ?_
            refine M_ga mb rfl eX2_settles_193 fl_X2_8_2 ?_
            refine V_sipush (v := 550) (by decide) eX2_settles_196 ?_
            refine V_iload1 eX2_settles_199 ?_
            refine V_iadd eX2_settles_200 ?_
            refine M_sl (n := (550 + p)) mb (zadd rfl rfl) (by omega) hk1 eX2_settles_201 ?_
            refine V_iadd eX2_settles_202 ?_
            refine V_dup2 rfl rfl eX2_settles_203 ?_
            refine M_bl (j := 14) (n := ((20 * (8 + (sI S (S (430 + p))))) + k)) mb rfl (zadd (zmul rfl (zadd rfl rfl)) rfl) (by show _ < _; first | decide | (simp only [mlen]; omega)) (show _ = (q31 ((20 * (8 + (sI S (S (430 + p))))) + k)) from rfl) eX2_settles_204 ?_
            refine V_aload0 eX2_settles_205 rfl ?_
            refine M_ga mb rfl eX2_settles_206 fl_X2_8_2 ?_
            refine V_sipush (v := 730) (by decide) eX2_settles_209 ?_
            refine V_iload1 eX2_settles_212 ?_
            refine V_iadd eX2_settles_213 ?_
            refine M_sl (n := (730 + p)) mb (zadd rfl rfl) (by omega) rfl eX2_settles_214 ?_
            refine V_i2l eX2_settles_215 ?_
            refine V_ladd eX2_settles_216 ?_
            refine M_bs (j := 14) (n := ((20 * (8 + (sI S (S (430 + p))))) + k)) mb rfl (zadd (zmul rfl (zadd rfl rfl)) rfl) (by show _ < _; first | decide | (simp only [mlen]; omega)) eX2_settles_217 ?_
            obtain ⟨Q_13, hQ_13⟩ : ∃ T, T = va_up q31 ((20 * (8 + (sI S (S (430 + p))))) + k) ((q31 ((20 * (8 + (sI S (S (430 + p))))) + k)) + (S (730 + p)).toInt64) := ⟨_, rfl⟩
            rw [ms_extB (show va_up (va_up (va_up (va_up (va_up (va_up B 14 q31) 15 q2.2) 16 (B 16)) 17 (B 17)) 18 (B 18)) 14 (va_up ((va_up (va_up (va_up (va_up (va_up B 14 q31) 15 q2.2) 16 (B 16)) 17 (B 17)) 18 (B 18)) 14) ((20 * (8 + (sI S (S (430 + p))))) + k) ((q31 ((20 * (8 + (sI S (S (430 + p))))) + k)) + (S (730 + p)).toInt64)) = (va_up (va_up (va_up (va_up (va_up B 14 Q_13) 15 q2.2) 16 (B 16)) 17 (B 17)) 18 (B 18)) from by
                rw [hQ_13]; funext q
                by_cases e14 : q = 14
                · subst e14; rfl
                by_cases e15 : q = 15
                · subst e15; rfl
                by_cases e16 : q = 16
                · subst e16; rfl
                by_cases e17 : q = 17
                · subst e17; rfl
                by_cases e18 : q = 18
                · subst e18; rfl
                simp only [va_up, if_neg e14, if_neg e15, if_neg e16, if_neg e17, if_neg e18])]
            refine V_iincN1 rfl eX2_settles_218 rfl ?_
            refine V_goto eX2_settles_221 ?_
            exact V.le (zle_c (zle_c (zle_n (zle_n (zle_n (zle_n (zle_n zle_0))))))) (ih31 hl31 Q_13 (by rw [zfold_s (n := p), ← hq31]; simp only [K_settles_31, ← hQ_13, hk, if_pos c51, if_neg c65, if_pos c165])  )
        · have hsI := (sI_lt (Nat.le_refl 12) (hci p hl31 (Or.inl c65))).1
          refine V_aload0 eX2_settles_68 rfl ?_
          refine V_aload0 eX2_settles_69 rfl ?_
          refine M_ga mb rfl eX2_settles_70 fl_X2_8_2 ?_
          refine V_sipush (v := 430) (by decide) eX2_settles_73 ?_
          refine V_iload1 eX2_settles_76 ?_
          refine V_iadd eX2_settles_77 ?_
          refine M_sl (n := (430 + p)) mb (zadd rfl rfl) (by omega) rfl eX2_settles_78 ?_
          refine M_call mb eX2_settles_79 lmX2_indexOf q2289 q2291 rfl qs89 (c_indexOf mb (hci p hl31 (Or.inl c65))) rfl rfl rfl rfl ?_
          refine V_istore2 rfl eX2_settles_82 rfl ?_
          refine V_iconst (v := 0) (by decide) eX2_settles_83 ?_
          refine V_istore3 rfl eX2_settles_84 rfl ?_
          refine V.le (zle_c (zle_c (zle_c (zle_c (zle_n (zle_n (zle_n zle_0))))))) (zloop (P := fun hh => ∀ q85 : (Nat → Int64), q85 = zfold (K_settles_85 S p) hh q31 → V w mX2_settles cX2_settles 2 0 0 (ms h A (va_up (va_up (va_up (va_up (va_up B 14 q85) 15 q2.2) 16 (B 16)) 17 (B 17)) 18 (B 18)) F S) 85 [some (.ref m), some (.int (nI p)), some (.int (nI (sI S (S (430 + p))))), some (.int (nI hh)), none, none, none] [] _) 8 (fun hh hhh ih85 q85 hq85  => ?_) 0 (Nat.zero_le _) q31 rfl )
          refine V_iload3 eX2_settles_85 ?_
          refine V_bipush (v := 8) (by decide) eX2_settles_86 ?_
          refine V_if_icmpge eX2_settles_88 (fun c88 => ?_) (fun c88 => ?_)
          · have e85 : hh = 8 := by have := nle (a := 8) c88 (by omega) (by omega); omega
            rw [e85] at hq85
            refine V_aload0 eX2_settles_141 rfl ?_
            refine M_ga mb rfl eX2_settles_142 fl_X2_8_2 ?_
            refine V_sipush (v := 790) (by decide) eX2_settles_145 ?_
            refine V_iload1 eX2_settles_148 ?_
            refine V_iadd eX2_settles_149 ?_
            refine M_sl (n := (790 + p)) mb (zadd rfl rfl) (by omega) rfl eX2_settles_150 ?_
            refine V_ifne eX2_settles_151 (fun c151 => absurd c51 c151) (fun c151 => ?_)
            refine V_aload0 eX2_settles_154 rfl ?_
            refine M_ga mb rfl eX2_settles_155 fl_X2_8_2 ?_
            refine V_sipush (v := 370) (by decide) eX2_settles_158 ?_
            refine V_iload1 eX2_settles_161 ?_
            refine V_iadd eX2_settles_162 ?_
            refine M_sl (n := (370 + p)) mb (zadd rfl rfl) (by omega) rfl eX2_settles_163 ?_
            refine V_iconst (v := 5) (by decide) eX2_settles_164 ?_
            refine V_if_icmpne eX2_settles_165 (fun c165 => ?_) (fun c165 => ?_)
            · refine V_iincN1 rfl eX2_settles_218 rfl ?_
              refine V_goto eX2_settles_221 ?_
              exact V.le (zle_c (zle_c (zle_n (zle_n (zle_n (zle_n (zle_n zle_0))))))) (ih31 hl31 q85 (by rw [zfold_s (n := p), ← hq31]; simp only [K_settles_31, ← hq85, if_pos c51, if_pos c65, if_neg c165])  )
            · obtain ⟨k, hk1, hk2⟩ := hlo p hl31 c165
              have hk : sn S (550 + p) = k := sn_of hk1 (by omega)
              have hsI := (sI_lt (Nat.le_refl 12) (hci p hl31 (Or.inr c165))).1
              refine V_aload0 eX2_settles_168 rfl ?_
              refine M_gb mb rfl eX2_settles_169 fl_X2_32_2 ?_
              refine V_bipush (v := 20) (by decide) eX2_settles_172 ?_
              refine V_bipush (v := 8) (by decide) eX2_settles_174 ?_
              refine V_aload0 eX2_settles_176 rfl ?_
              refine V_aload0 eX2_settles_177 rfl ?_
              refine M_ga mb rfl eX2_settles_178 fl_X2_8_2 ?_
              refine V_sipush (v := 430) (by decide) eX2_settles_181 ?_
              refine V_iload1 eX2_settles_184 ?_
              refine V_iadd eX2_settles_185 ?_
              refine M_sl (n := (430 + p)) mb (zadd rfl rfl) (by omega) rfl eX2_settles_186 ?_
              refine M_call mb eX2_settles_187 lmX2_indexOf q2289 q2291 rfl qs89 (c_indexOf mb (hci p hl31 (Or.inr c165))) rfl rfl rfl rfl ?_
              refine V_iadd eX2_settles_190 ?_
              refine V_imul eX2_settles_191 ?_
              refine V_aload0 eX2_settles_192 rfl ?_
              refine M_ga mb rfl eX2_settles_193 fl_X2_8_2 ?_
              refine V_sipush (v := 550) (by decide) eX2_settles_196 ?_
              refine V_iload1 eX2_settles_199 ?_
              refine V_iadd eX2_settles_200 ?_
              refine M_sl (n := (550 + p)) mb (zadd rfl rfl) (by omega) hk1 eX2_settles_201 ?_
              refine V_iadd eX2_settles_202 ?_
              refine V_dup2 rfl rfl eX2_settles_203 ?_
              refine M_bl (j := 14) (n := ((20 * (8 + (sI S (S (430 + p))))) + k)) mb rfl (zadd (zmul rfl (zadd rfl rfl)) rfl) (by show _ < _; first | decide | (simp only [mlen]; omega)) (show _ = (q85 ((20 * (8 + (sI S (S (430 + p))))) + k)) from rfl) eX2_settles_204 ?_
              refine V_aload0 eX2_settles_205 rfl ?_
              refine M_ga mb rfl eX2_settles_206 fl_X2_8_2 ?_
              refine V_sipush (v := 730) (by decide) eX2_settles_209 ?_
              refine V_iload1 eX2_settles_212 ?_
              refine V_iadd eX2_settles_213 ?_
              refine M_sl (n := (730 + p)) mb (zadd rfl rfl) (by omega) rfl eX2_settles_214 ?_
              refine V_i2l eX2_settles_215 ?_
              refine V_ladd eX2_settles_216 ?_
              refine M_bs (j := 14) (n := ((20 * (8 + (sI S (S (430 + p))))) + k)) mb rfl (zadd (zmul rfl (zadd rfl rfl)) rfl) (by show _ < _; first | decide | (simp only [mlen]; omega)) eX2_settles_217 ?_
              obtain ⟨Q_14, hQ_14⟩ : ∃ T, T = va_up q85 ((20 * (8 + (sI S (S (430 + p))))) + k) ((q85 ((20 * (8 + (sI S (S (430 + p))))) + k)) + (S (730 + p)).toInt64) := ⟨_, rfl⟩
              rw [ms_extB (show va_up (va_up (va_up (va_up (va_up (va_up B 14 q85) 15 q2.2) 16 (B 16)) 17 (B 17)) 18 (B 18)) 14 (va_up ((va_up (va_up (va_up (va_up (va_up B 14 q85) 15 q2.2) 16 (B 16)) 17 (B 17)) 18 (B 18)) 14) ((20 * (8 + (sI S (S (430 + p))))) + k) ((q85 ((20 * (8 + (sI S (S (430 + p))))) + k)) + (S (730 + p)).toInt64)) = (va_up (va_up (va_up (va_up (va_up B 14 Q_14) 15 q2.2) 16 (B 16)) 17 (B 17)) 18 (B 18)) from by
                  rw [hQ_14]; funext q
                  by_cases e14 : q = 14
                  · subst e14; rfl
                  by_cases e15 : q = 15
                  · subst e15; rfl
                  by_cases e16 : q = 16
                  · subst e16; rfl
                  by_cases e17 : q = 17
                  · subst e17; rfl
                  by_cases e18 : q = 18
                  · subst e18; rfl
                  simp only [va_up, if_neg e14, if_neg e15, if_neg e16, if_neg e17, if_neg e18])]
              refine V_iincN1 rfl eX2_settles_218 rfl ?_
              refine V_goto eX2_settles_221 ?_
              exact V.le (zle_c (zle_c (zle_n (zle_n (zle_n (zle_n (zle_n zle_0))))))) (ih31 hl31 Q_14 (by rw [zfold_s (n := p), ← hq31]; simp only [K_settles_31, ← hq85, ← hQ_14, hk, if_pos c51, if_pos c65, if_pos c165])  )
          · have hl85 : hh < 8 := by have := nnle (a := 8) c88 (by omega) (by omega); omega
            refine V_aload0 eX2_settles_91 rfl ?_
            refine M_gb mb rfl eX2_settles_92 fl_X2_32_2 ?_
            refine V_bipush (v := 20) (by decide) eX2_settles_95 ?_
            refine V_iload3 eX2_settles_97 ?_
            refine V_imul eX2_settles_98 ?_
            refine V_bipush (v := 8) (by decide) eX2_settles_99 ?_
            refine V_iadd eX2_settles_101 ?_
            refine V_iload2 eX2_settles_102 ?_
            refine V_iadd eX2_settles_103 ?_
            refine V_dup2 rfl rfl eX2_settles_104 ?_
            refine M_bl (j := 14) (n := (((20 * hh) + 8) + (sI S (S (430 + p))))) mb rfl (zadd (zadd (zmul rfl rfl) rfl) rfl) (by show _ < _; first | decide | (simp only [mlen]; omega)) (show _ = (q85 (((20 * hh) + 8) + (sI S (S (430 + p))))) from rfl) eX2_settles_105 ?_
            refine V_aload0 eX2_settles_106 rfl ?_
            refine M_ga mb rfl eX2_settles_107 fl_X2_8_2 ?_
            refine V_sipush (v := 730) (by decide) eX2_settles_110 ?_
            refine V_iload1 eX2_settles_113 ?_
            refine V_iadd eX2_settles_114 ?_
            refine M_sl (n := (730 + p)) mb (zadd rfl rfl) (by omega) rfl eX2_settles_115 ?_
            refine V_aload0 eX2_settles_116 rfl ?_
            refine M_ga mb rfl eX2_settles_117 fl_X2_8_2 ?_
            refine V_sipush (v := 11530) (by decide) eX2_settles_120 ?_
            refine V_bipush (v := 9) (by decide) eX2_settles_123 ?_
            refine V_iload2 eX2_settles_125 ?_
            refine V_imul eX2_settles_126 ?_
            refine V_iadd eX2_settles_127 ?_
            refine V_iload3 eX2_settles_128 ?_
            refine V_iadd eX2_settles_129 ?_
            refine M_sl (n := ((11530 + (9 * (sI S (S (430 + p))))) + hh)) mb (zadd (zadd rfl (zmul rfl rfl)) rfl) (by omega) rfl eX2_settles_130 ?_
            refine V_imul eX2_settles_131 ?_
            refine V_i2l eX2_settles_132 ?_
            refine V_ladd eX2_settles_133 ?_
            refine M_bs (j := 14) (n := (((20 * hh) + 8) + (sI S (S (430 + p))))) mb rfl (zadd (zadd (zmul rfl rfl) rfl) rfl) (by show _ < _; first | decide | (simp only [mlen]; omega)) eX2_settles_134 ?_
            obtain ⟨Q_15, hQ_15⟩ : ∃ T, T = va_up q85 (((20 * hh) + 8) + (sI S (S (430 + p)))) ((q85 (((20 * hh) + 8) + (sI S (S (430 + p))))) + ((S (730 + p)) * (S ((11530 + (9 * (sI S (S (430 + p))))) + hh))).toInt64) := ⟨_, rfl⟩
            rw [ms_extB (show va_up (va_up (va_up (va_up (va_up (va_up B 14 q85) 15 q2.2) 16 (B 16)) 17 (B 17)) 18 (B 18)) 14 (va_up ((va_up (va_up (va_up (va_up (va_up B 14 q85) 15 q2.2) 16 (B 16)) 17 (B 17)) 18 (B 18)) 14) (((20 * hh) + 8) + (sI S (S (430 + p)))) ((q85 (((20 * hh) + 8) + (sI S (S (430 + p))))) + ((S (730 + p)) * (S ((11530 + (9 * (sI S (S (430 + p))))) + hh))).toInt64)) = (va_up (va_up (va_up (va_up (va_up B 14 Q_15) 15 q2.2) 16 (B 16)) 17 (B 17)) 18 (B 18)) from by
                rw [hQ_15]; funext q
                by_cases e14 : q = 14
                · subst e14; rfl
                by_cases e15 : q = 15
                · subst e15; rfl
                by_cases e16 : q = 16
                · subst e16; rfl
                by_cases e17 : q = 17
                · subst e17; rfl
                by_cases e18 : q = 18
                · subst e18; rfl
                simp only [va_up, if_neg e14, if_neg e15, if_neg e16, if_neg e17, if_neg e18])]
            refine V_iincN3 rfl eX2_settles_135 rfl ?_
            refine V_goto eX2_settles_138 ?_
            exact V.le (zle_c (zle_c (zle_c (zle_c (zle_n (zle_n (zle_n zle_0))))))) (ih85 hl85 Q_15 (by rw [zfold_s (n := hh), ← hq85]; simp only [K_settles_85, ← hQ_15])  )
  · have hl2 : k < 400 := by have := nnle (a := 400) c6 (by omega) (by omega); omega
    refine V_aload0 eX2_settles_9 rfl ?_
    refine M_gb mb rfl eX2_settles_10 fl_X2_32_2 ?_
    refine V_iload1 eX2_settles_13 ?_
    refine V_lconst (v := 0) (by decide) eX2_settles_14 ?_
    refine M_bs (j := 14) (n := k) mb rfl rfl (by show _ < _; first | decide | (simp only [mlen]; omega)) eX2_settles_15 ?_
    obtain ⟨Q_16, hQ_16⟩ : ∃ T, T = va_up q2.1 k (0 : Int64) := ⟨_, rfl⟩
    rw [ms_extB (show va_up (va_up (va_up (va_up (va_up (va_up B 14 q2.1) 15 q2.2) 16 (B 16)) 17 (B 17)) 18 (B 18)) 14 (va_up ((va_up (va_up (va_up (va_up (va_up B 14 q2.1) 15 q2.2) 16 (B 16)) 17 (B 17)) 18 (B 18)) 14) k (0 : Int64)) = (va_up (va_up (va_up (va_up (va_up B 14 Q_16) 15 q2.2) 16 (B 16)) 17 (B 17)) 18 (B 18)) from by
        rw [hQ_16]; funext q
        by_cases e14 : q = 14
        · subst e14; rfl
        by_cases e15 : q = 15
        · subst e15; rfl
        by_cases e16 : q = 16
        · subst e16; rfl
        by_cases e17 : q = 17
        · subst e17; rfl
        by_cases e18 : q = 18
        · subst e18; rfl
        simp only [va_up, if_neg e14, if_neg e15, if_neg e16, if_neg e17, if_neg e18])]
    refine V_aload0 eX2_settles_16 rfl ?_
    refine M_gb mb rfl eX2_settles_17 fl_X2_36_2 ?_
    refine V_iload1 eX2_settles_20 ?_
    refine V_lconst (v := 0) (by decide) eX2_settles_21 ?_
    refine M_bs (j := 15) (n := k) mb rfl rfl (by show _ < _; first | decide | (simp only [mlen]; omega)) eX2_settles_22 ?_
    obtain ⟨Q_17, hQ_17⟩ : ∃ T, T = va_up q2.2 k (0 : Int64) := ⟨_, rfl⟩
    rw [ms_extB (show va_up (va_up (va_up (va_up (va_up (va_up B 14 Q_16) 15 q2.2) 16 (B 16)) 17 (B 17)) 18 (B 18)) 15 (va_up ((va_up (va_up (va_up (va_up (va_up B 14 Q_16) 15 q2.2) 16 (B 16)) 17 (B 17)) 18 (B 18)) 15) k (0 : Int64)) = (va_up (va_up (va_up (va_up (va_up B 14 Q_16) 15 Q_17) 16 (B 16)) 17 (B 17)) 18 (B 18)) from by
        rw [hQ_17]; funext q
        by_cases e14 : q = 14
        · subst e14; rfl
        by_cases e15 : q = 15
        · subst e15; rfl
        by_cases e16 : q = 16
        · subst e16; rfl
        by_cases e17 : q = 17
        · subst e17; rfl
        by_cases e18 : q = 18
        · subst e18; rfl
        simp only [va_up, if_neg e14, if_neg e15, if_neg e16, if_neg e17, if_neg e18])]
    refine V_iincN1 rfl eX2_settles_23 rfl ?_
    refine V_goto eX2_settles_26 ?_
    exact V.le (zle_c (zle_c (zle_n (zle_n (zle_n (zle_n (zle_n zle_0))))))) (ih2 hl2 (Q_16, Q_17) (by rw [zfold_s (n := k), ← hq2]; simp only [K_settles_2, ← hQ_16, ← hQ_17])  )

