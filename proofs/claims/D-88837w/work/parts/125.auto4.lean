theorem zsubI {z a : Nat} (hz : z < 2 ^ 31) (ha : a < 2 ^ 31) : (nI z - nI a).toInt = (z : Int) - a := by
  rw [Int32.toInt_sub, nI_toInt hz, nI_toInt ha]
  exact Int.bmod_eq_of_le (by omega) (by omega)
theorem zsubL {z a b : Nat} (hz : z < 2 ^ 31) (ha : a < 2 ^ 31) (hb : b < 2 ^ 31) (h : ¬ nI z - nI a < nI b) : a + b ≤ z := by
  rw [Int32.lt_iff_toInt_lt, zsubI hz ha, nI_toInt hb] at h
  omega
def o_levelOf (S : Nat → Int32) (p : Nat) (k : Nat) (c : Nat) (c0 : Nat) : Int32 :=
  if (nI k) = 0 then
    (S (20 + c0))
  else
    let k1 := k - 1
    let c1 := sn S (4700 + 41 * p + k1)
    if (S ((7160 + (41 * p)) + k1)) = (-1000000 : Int32) then
      (-1000000 : Int32)
    else
      if (S (200 + c)) = (2 : Int32) then
        let z := sn S (204 + c)
        if ((nI (k1 + 1)) - (1 : Int32)) < (nI z) then
          if (S ((208 + (40 * c)) + k1)) = (1000000 : Int32) then
            ((S ((7160 + (41 * p)) + k1)) + ((S (20 + c0)) - (S (20 + c1))))
          else
            if (S ((208 + (40 * c)) + k1)) ≤ (10000 : Int32) then
              if (-10000 : Int32) ≤ (S ((208 + (40 * c)) + k1)) then
                ((S ((7160 + (41 * p)) + k1)) + (S ((208 + (40 * c)) + k1)))
              else
                ((S ((7160 + (41 * p)) + k1)) + (-10000 : Int32))
            else
              ((S ((7160 + (41 * p)) + k1)) + (10000 : Int32))
        else
          (-1000000 : Int32)
      else
        (-1000000 : Int32)
theorem c_levelOf {w : Wd} {h : Hp} {m : Nat} {ad : Nat → Nat} {A : Nat → Nat → Int32} {B : Nat → Nat → Int64} {F S : Nat → Int32} (mb : MB h m ad) (p : Nat) (k : Nat) (c : Nat) (hp : p < 60) (hk : k < 41) (hc : c < 4) {c0 : Nat} (hw0 : S (4700 + 41 * p + k) = nI c0) (hc0 : c0 < 80) (hw1 : ∀ k1, k = k1 + 1 → ∃ c1, S (4700 + 41 * p + k1) = nI c1 ∧ c1 < 80) (hsz : ∀ c, c < 4 → ∃ z, S (204 + c) = nI z ∧ z ≤ 40) : Con w mX2_levelOf cX2_levelOf 1 0 0 [.ref m, .int (nI p), .int (nI k), .int (nI c)] (ms h A B F S) (Rv (.int (o_levelOf S p k c c0)) (ms h A B F S)) := by
  refine Con.of (by decide +kernel) rfl rfl ?_
  show V w mX2_levelOf cX2_levelOf 1 0 0 _ 0 [some (.ref m), some (.int (nI p)), some (.int (nI k)), some (.int (nI c)), none, none, none, none] [] _
  refine V_sipush (v := 4700) (by decide) eX2_levelOf_0 ?_
  refine V_bipush (v := 41) (by decide) eX2_levelOf_3 ?_
  refine V_iload1 eX2_levelOf_5 ?_
  refine V_imul eX2_levelOf_6 ?_
  refine V_iadd eX2_levelOf_7 ?_
  refine V_iload2 eX2_levelOf_8 ?_
  refine V_iadd eX2_levelOf_9 ?_
  refine V_istore4 rfl eX2_levelOf_10 rfl ?_
  refine V_iload2 eX2_levelOf_12 ?_
  refine V_ifne eX2_levelOf_13 (fun c13 => ?_) (fun c13 => ?_)
  · obtain ⟨k1, rfl⟩ : ∃ k1, k = k1 + 1 := ⟨k - 1, by have : k ≠ 0 := fun q => c13 (by rw [q]; rfl); omega⟩
    obtain ⟨c1, hw1, hc1⟩ := hw1 k1 rfl
    have hkk : k1 + 1 - 1 = k1 := by omega
    have hc1s : sn S (4700 + 41 * p + k1) = c1 := sn_of hw1 (by omega)
    refine V_aload0 eX2_levelOf_32 rfl ?_
    refine M_ga mb rfl eX2_levelOf_33 fl_X2_8_2 ?_
    refine V_sipush (v := 7160) (by decide) eX2_levelOf_36 ?_
    refine V_bipush (v := 41) (by decide) eX2_levelOf_39 ?_
    refine V_iload1 eX2_levelOf_41 ?_
    refine V_imul eX2_levelOf_42 ?_
    refine V_iadd eX2_levelOf_43 ?_
    refine V_iload2 eX2_levelOf_44 ?_
    refine V_iadd eX2_levelOf_45 ?_
    refine V_iconst (v := 1) (by decide) eX2_levelOf_46 ?_
    refine V_isub eX2_levelOf_47 ?_
    refine M_sl (n := ((7160 + (41 * p)) + k1)) mb (zsubm (n := ((7160 + (41 * p)) + k1)) (m := 1) ((show _ = nI ((7160 + (41 * p)) + (k1 + 1)) from zadd (zadd rfl (zmul rfl rfl)) rfl).trans (congrArg nI (by omega))) rfl) (by omega) rfl eX2_levelOf_48 ?_
    refine V_istore5 rfl eX2_levelOf_49 rfl ?_
    refine V_iload5 eX2_levelOf_51 ?_
    refine V_ldc (v := -1000000) eX2_levelOf_53 q2145 ?_
    refine V_if_icmpeq eX2_levelOf_55 (fun c55 => ?_) (fun c55 => ?_)
    · refine V_ldc (v := -1000000) eX2_levelOf_88 q2145 ?_
      have hE : (-1000000 : Int32) = o_levelOf S p (k1 + 1) c c0 := by simp only [o_levelOf, hkk, hc1s, if_neg c13, if_pos c55]
      exact V_ireturn eX2_levelOf_90 rfl (by rw [← hE]; exact ⟨rfl, rfl⟩)
    · refine V_aload0 eX2_levelOf_58 rfl ?_
      refine M_ga mb rfl eX2_levelOf_59 fl_X2_8_2 ?_
      refine V_sipush (v := 200) (by decide) eX2_levelOf_62 ?_
      refine V_iload3 eX2_levelOf_65 ?_
      refine V_iadd eX2_levelOf_66 ?_
      refine M_sl (n := (200 + c)) mb (zadd rfl rfl) (by omega) rfl eX2_levelOf_67 ?_
      refine V_iconst (v := 2) (by decide) eX2_levelOf_68 ?_
      refine V_if_icmpne eX2_levelOf_69 (fun c69 => ?_) (fun c69 => ?_)
      · refine V_ldc (v := -1000000) eX2_levelOf_88 q2145 ?_
        have hE : (-1000000 : Int32) = o_levelOf S p (k1 + 1) c c0 := by simp only [o_levelOf, hkk, hc1s, if_neg c13, if_neg c55, if_neg c69]
        exact V_ireturn eX2_levelOf_90 rfl (by rw [← hE]; exact ⟨rfl, rfl⟩)
      · refine V_iload2 eX2_levelOf_72 ?_
        refine V_iconst (v := 1) (by decide) eX2_levelOf_73 ?_
        refine V_isub eX2_levelOf_74 ?_
        refine V_aload0 eX2_levelOf_75 rfl ?_
        obtain ⟨z, hz1, hz2⟩ := hsz c hc
        have hz : sn S (204 + c) = z := sn_of hz1 (by omega)
        refine M_ga mb rfl eX2_levelOf_76 fl_X2_8_2 ?_
        refine V_sipush (v := 204) (by decide) eX2_levelOf_79 ?_
        refine V_iload3 eX2_levelOf_82 ?_
        refine V_iadd eX2_levelOf_83 ?_
        refine M_sl (n := (204 + c)) mb (zadd rfl rfl) (by omega) hz1 eX2_levelOf_84 ?_
        refine V_if_icmplt eX2_levelOf_85 (fun c85 => ?_) (fun c85 => ?_)
        · have hkz : k1 < z := nlt (a := k1) (b := z) (by rw [← nI_pred]; exact c85) (by omega) (by omega)
          refine V_aload0 eX2_levelOf_91 rfl ?_
          refine M_ga mb rfl eX2_levelOf_92 fl_X2_8_2 ?_
          refine V_sipush (v := 208) (by decide) eX2_levelOf_95 ?_
          refine V_bipush (v := 40) (by decide) eX2_levelOf_98 ?_
          refine V_iload3 eX2_levelOf_100 ?_
          refine V_imul eX2_levelOf_101 ?_
          refine V_iadd eX2_levelOf_102 ?_
          refine V_iload2 eX2_levelOf_103 ?_
          refine V_iadd eX2_levelOf_104 ?_
          refine V_iconst (v := 1) (by decide) eX2_levelOf_105 ?_
          refine V_isub eX2_levelOf_106 ?_
          refine M_sl (n := ((208 + (40 * c)) + k1)) mb (zsubm (n := ((208 + (40 * c)) + k1)) (m := 1) ((show _ = nI ((208 + (40 * c)) + (k1 + 1)) from zadd (zadd rfl (zmul rfl rfl)) rfl).trans (congrArg nI (by omega))) rfl) (by omega) rfl eX2_levelOf_107 ?_
          refine V_istore6 rfl eX2_levelOf_108 rfl ?_
          refine V_iload6 eX2_levelOf_110 ?_
          refine V_ldc (v := 1000000) eX2_levelOf_112 q2146 ?_
          refine V_if_icmpne eX2_levelOf_114 (fun c114 => ?_) (fun c114 => ?_)
          · refine V_iload6 eX2_levelOf_153 ?_
            refine V_sipush (v := 10000) (by decide) eX2_levelOf_155 ?_
            refine V_if_icmple eX2_levelOf_158 (fun c158 => ?_) (fun c158 => ?_)
            · refine V_iload6 eX2_levelOf_167 ?_
              refine V_sipush (v := -10000) (by decide) eX2_levelOf_169 ?_
              refine V_if_icmpge eX2_levelOf_172 (fun c172 => ?_) (fun c172 => ?_)
              · refine V_iload6 eX2_levelOf_181 ?_
                refine V_istore7 rfl eX2_levelOf_183 rfl ?_
                refine V_iload5 eX2_levelOf_185 ?_
                refine V_iload7 eX2_levelOf_187 ?_
                refine V_iadd eX2_levelOf_189 ?_
                have hE : ((S ((7160 + (41 * p)) + k1)) + (S ((208 + (40 * c)) + k1))) = o_levelOf S p (k1 + 1) c c0 := by simp only [o_levelOf, hkk, hc1s, hz, if_neg c13, if_neg c55, if_pos c69, if_pos c85, if_neg c114, if_pos c158, if_pos c172]
                exact V_ireturn eX2_levelOf_190 rfl (by rw [← hE]; exact ⟨rfl, rfl⟩)
              · refine V_sipush (v := -10000) (by decide) eX2_levelOf_175 ?_
                refine V_goto eX2_levelOf_178 ?_
                refine V_istore7 rfl eX2_levelOf_183 rfl ?_
                refine V_iload5 eX2_levelOf_185 ?_
                refine V_iload7 eX2_levelOf_187 ?_
                refine V_iadd eX2_levelOf_189 ?_
                have hE : ((S ((7160 + (41 * p)) + k1)) + (-10000 : Int32)) = o_levelOf S p (k1 + 1) c c0 := by simp only [o_levelOf, hkk, hc1s, hz, if_neg c13, if_neg c55, if_pos c69, if_pos c85, if_neg c114, if_pos c158, if_neg c172]
                exact V_ireturn eX2_levelOf_190 rfl (by rw [← hE]; exact ⟨rfl, rfl⟩)
            · refine V_sipush (v := 10000) (by decide) eX2_levelOf_161 ?_
              refine V_goto eX2_levelOf_164 ?_
              refine V_istore7 rfl eX2_levelOf_183 rfl ?_
              refine V_iload5 eX2_levelOf_185 ?_
              refine V_iload7 eX2_levelOf_187 ?_
              refine V_iadd eX2_levelOf_189 ?_
              have hE : ((S ((7160 + (41 * p)) + k1)) + (10000 : Int32)) = o_levelOf S p (k1 + 1) c c0 := by simp only [o_levelOf, hkk, hc1s, hz, if_neg c13, if_neg c55, if_pos c69, if_pos c85, if_neg c114, if_neg c158]
              exact V_ireturn eX2_levelOf_190 rfl (by rw [← hE]; exact ⟨rfl, rfl⟩)
          · refine V_aload0 eX2_levelOf_117 rfl ?_
            refine M_ga mb rfl eX2_levelOf_118 fl_X2_8_2 ?_
            refine V_bipush (v := 20) (by decide) eX2_levelOf_121 ?_
            refine V_aload0 eX2_levelOf_123 rfl ?_
            refine M_ga mb rfl eX2_levelOf_124 fl_X2_8_2 ?_
            refine V_iload4 eX2_levelOf_127 ?_
            refine M_sl (n := ((4700 + (41 * p)) + (k1 + 1))) mb (zadd (zadd rfl (zmul rfl rfl)) rfl) (by omega) hw0 eX2_levelOf_129 ?_
            refine V_iadd eX2_levelOf_130 ?_
            refine M_sl (n := (20 + c0)) mb (zadd rfl rfl) (by omega) rfl eX2_levelOf_131 ?_
            refine V_aload0 eX2_levelOf_132 rfl ?_
            refine M_ga mb rfl eX2_levelOf_133 fl_X2_8_2 ?_
            refine V_bipush (v := 20) (by decide) eX2_levelOf_136 ?_
            refine V_aload0 eX2_levelOf_138 rfl ?_
            refine M_ga mb rfl eX2_levelOf_139 fl_X2_8_2 ?_
            refine V_iload4 eX2_levelOf_142 ?_
            refine V_iconst (v := 1) (by decide) eX2_levelOf_144 ?_
            refine V_isub eX2_levelOf_145 ?_
            refine M_sl (n := ((4700 + (41 * p)) + k1)) mb (zsubm (n := ((4700 + (41 * p)) + k1)) (m := 1) ((show _ = nI ((4700 + (41 * p)) + (k1 + 1)) from zadd (zadd rfl (zmul rfl rfl)) rfl).trans (congrArg nI (by omega))) rfl) (by omega) hw1 eX2_levelOf_146 ?_
            refine V_iadd eX2_levelOf_147 ?_
            refine M_sl (n := (20 + c1)) mb (zadd rfl rfl) (by omega) rfl eX2_levelOf_148 ?_
            refine V_isub eX2_levelOf_149 ?_
            refine V_goto eX2_levelOf_150 ?_
            refine V_istore7 rfl eX2_levelOf_183 rfl ?_
            refine V_iload5 eX2_levelOf_185 ?_
            refine V_iload7 eX2_levelOf_187 ?_
            refine V_iadd eX2_levelOf_189 ?_
            have hE : ((S ((7160 + (41 * p)) + k1)) + ((S (20 + c0)) - (S (20 + c1)))) = o_levelOf S p (k1 + 1) c c0 := by simp only [o_levelOf, hkk, hc1s, hz, if_neg c13, if_neg c55, if_pos c69, if_pos c85, if_pos c114]
            exact V_ireturn eX2_levelOf_190 rfl (by rw [← hE]; exact ⟨rfl, rfl⟩)
        · refine V_ldc (v := -1000000) eX2_levelOf_88 q2145 ?_
          have hE : (-1000000 : Int32) = o_levelOf S p (k1 + 1) c c0 := by simp only [o_levelOf, hkk, hc1s, hz, if_neg c13, if_neg c55, if_pos c69, if_neg c85]
          exact V_ireturn eX2_levelOf_90 rfl (by rw [← hE]; exact ⟨rfl, rfl⟩)
  · refine V_aload0 eX2_levelOf_16 rfl ?_
    refine M_ga mb rfl eX2_levelOf_17 fl_X2_8_2 ?_
    refine V_bipush (v := 20) (by decide) eX2_levelOf_20 ?_
    refine V_aload0 eX2_levelOf_22 rfl ?_
    refine M_ga mb rfl eX2_levelOf_23 fl_X2_8_2 ?_
    refine V_iload4 eX2_levelOf_26 ?_
    refine M_sl (n := ((4700 + (41 * p)) + k)) mb (zadd (zadd rfl (zmul rfl rfl)) rfl) (by omega) hw0 eX2_levelOf_28 ?_
    refine V_iadd eX2_levelOf_29 ?_
    refine M_sl (n := (20 + c0)) mb (zadd rfl rfl) (by omega) rfl eX2_levelOf_30 ?_
    have hE : (S (20 + c0)) = o_levelOf S p k c c0 := by simp only [o_levelOf, if_pos c13]
    exact V_ireturn eX2_levelOf_31 rfl (by rw [← hE]; exact ⟨rfl, rfl⟩)

def o_canStep (S : Nat → Int32) (a : Nat) (b : Nat) (fr : Int32) (to : Int32) (d : Int32) : Int32 :=
  if (zrule S (5 : Int32) d) = 0 then
    if (S (100 + b)) = (2 : Int32) then
      if (nI b) = fr then
        if (bI (zbes (nI a) (nI b))) = 0 then
          (0 : Int32)
        else
          if (zrule S (0 : Int32) d) < (zsz ((S (20 + a)) - (S (20 + b)))) then
            (0 : Int32)
          else
            (1 : Int32)
      else
        if (nI b) = to then
          if (bI (zbes (nI a) (nI b))) = 0 then
            (0 : Int32)
          else
            if (zrule S (0 : Int32) d) < (zsz ((S (20 + a)) - (S (20 + b)))) then
              (0 : Int32)
            else
              (1 : Int32)
        else
          if (bI (zbes (nI a) (nI b))) = 0 then
            (0 : Int32)
          else
            (0 : Int32)
    else
      if (bI (zbes (nI a) (nI b))) = 0 then
        (0 : Int32)
      else
        if (zrule S (0 : Int32) d) < (zsz ((S (20 + a)) - (S (20 + b)))) then
          (0 : Int32)
        else
          (1 : Int32)
  else
    if (bI (zbes (nI a) (nI b))) = 0 then
      (0 : Int32)
    else
      if (zrule S (0 : Int32) d) < (zsz ((S (20 + a)) - (S (20 + b)))) then
        (0 : Int32)
      else
        (1 : Int32)
theorem c_canStep {w : Wd} {h : Hp} {m : Nat} {ad : Nat → Nat} {A : Nat → Nat → Int32} {B : Nat → Nat → Int64} {F S : Nat → Int32} (mb : MB h m ad) (a : Nat) (b : Nat) (fr : Int32) (to : Int32) (d : Int32) (ha : a < 80) (hb : b < 80) {no : Nat} (ho : Ior S no) : Con w mX2_canStep cX2_canStep 3 0 0 [.ref m, .int (nI a), .int (nI b), .int fr, .int to, .int d] (ms h A B F S) (Rv (.int (o_canStep S a b fr to d)) (ms h A B F S)) := by
  refine Con.of (by decide +kernel) rfl rfl ?_
  show V w mX2_canStep cX2_canStep 3 0 0 _ 0 [some (.ref m), some (.int (nI a)), some (.int (nI b)), some (.int fr), some (.int to), some (.int d), none] [] _
  refine V_aload0 eX2_canStep_0 rfl ?_
  refine V_iconst (v := 5) (by decide) eX2_canStep_1 ?_
  refine V_iload5 eX2_canStep_2 ?_
  refine M_call mb eX2_canStep_4 lmX2_rule q2091 q2093 rfl qs63 (c_rule mb _ _ ho) rfl rfl rfl rfl ?_
  refine V_ifne eX2_canStep_7 (fun c7 => ?_) (fun c7 => ?_)
  · refine V_iconst (v := 0) (by decide) eX2_canStep_38 ?_
    refine V_istore6 rfl eX2_canStep_39 rfl ?_
    refine V_iload1 eX2_canStep_41 ?_
    refine V_iload2 eX2_canStep_42 ?_
    refine C0_static eX2_canStep_43 lmX2_isBeside q2130 q2131 (c_isBeside _ _ _) rfl rfl rfl rfl ?_
    refine V_ifeq eX2_canStep_46 (fun c46 => ?_) (fun c46 => ?_)
    · refine V_iconst (v := 0) (by decide) eX2_canStep_90 ?_
      have hE : (0 : Int32) = o_canStep S a b fr to d := by simp only [o_canStep, if_neg c7, if_pos c46]
      exact V_zreturn eX2_canStep_91 rfl (by decide) (by rw [← hE]; exact ⟨rfl, rfl⟩)
    · refine V_iload6 eX2_canStep_49 ?_
      refine V_ifne eX2_canStep_51 (fun c51 => absurd c51 (by decide)) (fun c51 => ?_)
      refine V_aload0 eX2_canStep_54 rfl ?_
      refine M_ga mb rfl eX2_canStep_55 fl_X2_8_2 ?_
      refine V_bipush (v := 20) (by decide) eX2_canStep_58 ?_
      refine V_iload1 eX2_canStep_60 ?_
      refine V_iadd eX2_canStep_61 ?_
      refine M_sl (n := (20 + a)) mb (zadd rfl rfl) (by omega) rfl eX2_canStep_62 ?_
      refine V_aload0 eX2_canStep_63 rfl ?_
      refine M_ga mb rfl eX2_canStep_64 fl_X2_8_2 ?_
      refine V_bipush (v := 20) (by decide) eX2_canStep_67 ?_
      refine V_iload2 eX2_canStep_69 ?_
      refine V_iadd eX2_canStep_70 ?_
      refine M_sl (n := (20 + b)) mb (zadd rfl rfl) (by omega) rfl eX2_canStep_71 ?_
      refine V_isub eX2_canStep_72 ?_
      refine C0_static eX2_canStep_73 lmX2_size q2159 q2160 (c_sizeZ _ _) rfl rfl rfl rfl ?_
      refine V_aload0 eX2_canStep_76 rfl ?_
      refine V_iconst (v := 0) (by decide) eX2_canStep_77 ?_
      refine V_iload5 eX2_canStep_78 ?_
      refine M_call mb eX2_canStep_80 lmX2_rule q2091 q2093 rfl qs63 (c_rule mb _ _ ho) rfl rfl rfl rfl ?_
      refine V_if_icmpgt eX2_canStep_83 (fun c83 => ?_) (fun c83 => ?_)
      · refine V_iconst (v := 0) (by decide) eX2_canStep_90 ?_
        have hE : (0 : Int32) = o_canStep S a b fr to d := by simp only [o_canStep, if_neg c7, if_neg c46, if_pos c83]
        exact V_zreturn eX2_canStep_91 rfl (by decide) (by rw [← hE]; exact ⟨rfl, rfl⟩)
      · refine V_iconst (v := 1) (by decide) eX2_canStep_86 ?_
        refine V_goto eX2_canStep_87 ?_
        have hE : (1 : Int32) = o_canStep S a b fr to d := by simp only [o_canStep, if_neg c7, if_neg c46, if_neg c83]
        exact V_zreturn eX2_canStep_91 rfl (by decide) (by rw [← hE]; exact ⟨rfl, rfl⟩)
  · refine V_aload0 eX2_canStep_10 rfl ?_
    refine M_ga mb rfl eX2_canStep_11 fl_X2_8_2 ?_
    refine V_bipush (v := 100) (by decide) eX2_canStep_14 ?_
    refine V_iload2 eX2_canStep_16 ?_
    refine V_iadd eX2_canStep_17 ?_
    refine M_sl (n := (100 + b)) mb (zadd rfl rfl) (by omega) rfl eX2_canStep_18 ?_
    refine V_iconst (v := 2) (by decide) eX2_canStep_19 ?_
    refine V_if_icmpne eX2_canStep_20 (fun c20 => ?_) (fun c20 => ?_)
    · refine V_iconst (v := 0) (by decide) eX2_canStep_38 ?_
      refine V_istore6 rfl eX2_canStep_39 rfl ?_
      refine V_iload1 eX2_canStep_41 ?_
      refine V_iload2 eX2_canStep_42 ?_
      refine C0_static eX2_canStep_43 lmX2_isBeside q2130 q2131 (c_isBeside _ _ _) rfl rfl rfl rfl ?_
      refine V_ifeq eX2_canStep_46 (fun c46 => ?_) (fun c46 => ?_)
      · refine V_iconst (v := 0) (by decide) eX2_canStep_90 ?_
        have hE : (0 : Int32) = o_canStep S a b fr to d := by simp only [o_canStep, if_pos c7, if_neg c20, if_pos c46]
        exact V_zreturn eX2_canStep_91 rfl (by decide) (by rw [← hE]; exact ⟨rfl, rfl⟩)
      · refine V_iload6 eX2_canStep_49 ?_
        refine V_ifne eX2_canStep_51 (fun c51 => absurd c51 (by decide)) (fun c51 => ?_)
        refine V_aload0 eX2_canStep_54 rfl ?_
        refine M_ga mb rfl eX2_canStep_55 fl_X2_8_2 ?_
        refine V_bipush (v := 20) (by decide) eX2_canStep_58 ?_
        refine V_iload1 eX2_canStep_60 ?_
        refine V_iadd eX2_canStep_61 ?_
        refine M_sl (n := (20 + a)) mb (zadd rfl rfl) (by omega) rfl eX2_canStep_62 ?_
        refine V_aload0 eX2_canStep_63 rfl ?_
        refine M_ga mb rfl eX2_canStep_64 fl_X2_8_2 ?_
        refine V_bipush (v := 20) (by decide) eX2_canStep_67 ?_
        refine V_iload2 eX2_canStep_69 ?_
        refine V_iadd eX2_canStep_70 ?_
        refine M_sl (n := (20 + b)) mb (zadd rfl rfl) (by omega) rfl eX2_canStep_71 ?_
        refine V_isub eX2_canStep_72 ?_
        refine C0_static eX2_canStep_73 lmX2_size q2159 q2160 (c_sizeZ _ _) rfl rfl rfl rfl ?_
        refine V_aload0 eX2_canStep_76 rfl ?_
        refine V_iconst (v := 0) (by decide) eX2_canStep_77 ?_
        refine V_iload5 eX2_canStep_78 ?_
        refine M_call mb eX2_canStep_80 lmX2_rule q2091 q2093 rfl qs63 (c_rule mb _ _ ho) rfl rfl rfl rfl ?_
        refine V_if_icmpgt eX2_canStep_83 (fun c83 => ?_) (fun c83 => ?_)
        · refine V_iconst (v := 0) (by decide) eX2_canStep_90 ?_
          have hE : (0 : Int32) = o_canStep S a b fr to d := by simp only [o_canStep, if_pos c7, if_neg c20, if_neg c46, if_pos c83]
          exact V_zreturn eX2_canStep_91 rfl (by decide) (by rw [← hE]; exact ⟨rfl, rfl⟩)
        · refine V_iconst (v := 1) (by decide) eX2_canStep_86 ?_
          refine V_goto eX2_canStep_87 ?_
          have hE : (1 : Int32) = o_canStep S a b fr to d := by simp only [o_canStep, if_pos c7, if_neg c20, if_neg c46, if_neg c83]
          exact V_zreturn eX2_canStep_91 rfl (by decide) (by rw [← hE]; exact ⟨rfl, rfl⟩)
    · refine V_iload2 eX2_canStep_23 ?_
      refine V_iload3 eX2_canStep_24 ?_
      refine V_if_icmpeq eX2_canStep_25 (fun c25 => ?_) (fun c25 => ?_)
      · refine V_iconst (v := 0) (by decide) eX2_canStep_38 ?_
        refine V_istore6 rfl eX2_canStep_39 rfl ?_
        refine V_iload1 eX2_canStep_41 ?_
        refine V_iload2 eX2_canStep_42 ?_
        refine C0_static eX2_canStep_43 lmX2_isBeside q2130 q2131 (c_isBeside _ _ _) rfl rfl rfl rfl ?_
        refine V_ifeq eX2_canStep_46 (fun c46 => ?_) (fun c46 => ?_)
        · refine V_iconst (v := 0) (by decide) eX2_canStep_90 ?_
          have hE : (0 : Int32) = o_canStep S a b fr to d := by simp only [o_canStep, if_pos c7, if_pos c20, if_pos c25, if_pos c46]
          exact V_zreturn eX2_canStep_91 rfl (by decide) (by rw [← hE]; exact ⟨rfl, rfl⟩)
        · refine V_iload6 eX2_canStep_49 ?_
          refine V_ifne eX2_canStep_51 (fun c51 => absurd c51 (by decide)) (fun c51 => ?_)
          refine V_aload0 eX2_canStep_54 rfl ?_
          refine M_ga mb rfl eX2_canStep_55 fl_X2_8_2 ?_
          refine V_bipush (v := 20) (by decide) eX2_canStep_58 ?_
          refine V_iload1 eX2_canStep_60 ?_
          refine V_iadd eX2_canStep_61 ?_
          refine M_sl (n := (20 + a)) mb (zadd rfl rfl) (by omega) rfl eX2_canStep_62 ?_
          refine V_aload0 eX2_canStep_63 rfl ?_
          refine M_ga mb rfl eX2_canStep_64 fl_X2_8_2 ?_
          refine V_bipush (v := 20) (by decide) eX2_canStep_67 ?_
          refine V_iload2 eX2_canStep_69 ?_
          refine V_iadd eX2_canStep_70 ?_
          refine M_sl (n := (20 + b)) mb (zadd rfl rfl) (by omega) rfl eX2_canStep_71 ?_
          refine V_isub eX2_canStep_72 ?_
          refine C0_static eX2_canStep_73 lmX2_size q2159 q2160 (c_sizeZ _ _) rfl rfl rfl rfl ?_
          refine V_aload0 eX2_canStep_76 rfl ?_
          refine V_iconst (v := 0) (by decide) eX2_canStep_77 ?_
          refine V_iload5 eX2_canStep_78 ?_
          refine M_call mb eX2_canStep_80 lmX2_rule q2091 q2093 rfl qs63 (c_rule mb _ _ ho) rfl rfl rfl rfl ?_
          refine V_if_icmpgt eX2_canStep_83 (fun c83 => ?_) (fun c83 => ?_)
          · refine V_iconst (v := 0) (by decide) eX2_canStep_90 ?_
            have hE : (0 : Int32) = o_canStep S a b fr to d := by simp only [o_canStep, if_pos c7, if_pos c20, if_pos c25, if_neg c46, if_pos c83]
            exact V_zreturn eX2_canStep_91 rfl (by decide) (by rw [← hE]; exact ⟨rfl, rfl⟩)
          · refine V_iconst (v := 1) (by decide) eX2_canStep_86 ?_
            refine V_goto eX2_canStep_87 ?_
            have hE : (1 : Int32) = o_canStep S a b fr to d := by simp only [o_canStep, if_pos c7, if_pos c20, if_pos c25, if_neg c46, if_neg c83]
            exact V_zreturn eX2_canStep_91 rfl (by decide) (by rw [← hE]; exact ⟨rfl, rfl⟩)
      · refine V_iload2 eX2_canStep_28 ?_
        refine V_iload4 eX2_canStep_29 ?_
        refine V_if_icmpeq eX2_canStep_31 (fun c31 => ?_) (fun c31 => ?_)
        · refine V_iconst (v := 0) (by decide) eX2_canStep_38 ?_
          refine V_istore6 rfl eX2_canStep_39 rfl ?_
          refine V_iload1 eX2_canStep_41 ?_
          refine V_iload2 eX2_canStep_42 ?_
          refine C0_static eX2_canStep_43 lmX2_isBeside q2130 q2131 (c_isBeside _ _ _) rfl rfl rfl rfl ?_
          refine V_ifeq eX2_canStep_46 (fun c46 => ?_) (fun c46 => ?_)
          · refine V_iconst (v := 0) (by decide) eX2_canStep_90 ?_
            have hE : (0 : Int32) = o_canStep S a b fr to d := by simp only [o_canStep, if_pos c7, if_pos c20, if_neg c25, if_pos c31, if_pos c46]
            exact V_zreturn eX2_canStep_91 rfl (by decide) (by rw [← hE]; exact ⟨rfl, rfl⟩)
          · refine V_iload6 eX2_canStep_49 ?_
            refine V_ifne eX2_canStep_51 (fun c51 => absurd c51 (by decide)) (fun c51 => ?_)
            refine V_aload0 eX2_canStep_54 rfl ?_
            refine M_ga mb rfl eX2_canStep_55 fl_X2_8_2 ?_
            refine V_bipush (v := 20) (by decide) eX2_canStep_58 ?_
            refine V_iload1 eX2_canStep_60 ?_
            refine V_iadd eX2_canStep_61 ?_
            refine M_sl (n := (20 + a)) mb (zadd rfl rfl) (by omega) rfl eX2_canStep_62 ?_
            refine V_aload0 eX2_canStep_63 rfl ?_
            refine M_ga mb rfl eX2_canStep_64 fl_X2_8_2 ?_
            refine V_bipush (v := 20) (by decide) eX2_canStep_67 ?_
            refine V_iload2 eX2_canStep_69 ?_
            refine V_iadd eX2_canStep_70 ?_
            refine M_sl (n := (20 + b)) mb (zadd rfl rfl) (by omega) rfl eX2_canStep_71 ?_
            refine V_isub eX2_canStep_72 ?_
            refine C0_static eX2_canStep_73 lmX2_size q2159 q2160 (c_sizeZ _ _) rfl rfl rfl rfl ?_
            refine V_aload0 eX2_canStep_76 rfl ?_
            refine V_iconst (v := 0) (by decide) eX2_canStep_77 ?_
            refine V_iload5 eX2_canStep_78 ?_
            refine M_call mb eX2_canStep_80 lmX2_rule q2091 q2093 rfl qs63 (c_rule mb _ _ ho) rfl rfl rfl rfl ?_
            refine V_if_icmpgt eX2_canStep_83 (fun c83 => ?_) (fun c83 => ?_)
            · refine V_iconst (v := 0) (by decide) eX2_canStep_90 ?_
              have hE : (0 : Int32) = o_canStep S a b fr to d := by simp only [o_canStep, if_pos c7, if_pos c20, if_neg c25, if_pos c31, if_neg c46, if_pos c83]
              exact V_zreturn eX2_canStep_91 rfl (by decide) (by rw [← hE]; exact ⟨rfl, rfl⟩)
            · refine V_iconst (v := 1) (by decide) eX2_canStep_86 ?_
              refine V_goto eX2_canStep_87 ?_
              have hE : (1 : Int32) = o_canStep S a b fr to d := by simp only [o_canStep, if_pos c7, if_pos c20, if_neg c25, if_pos c31, if_neg c46, if_neg c83]
              exact V_zreturn eX2_canStep_91 rfl (by decide) (by rw [← hE]; exact ⟨rfl, rfl⟩)
        · refine V_iconst (v := 1) (by decide) eX2_canStep_34 ?_
          refine V_goto eX2_canStep_35 ?_
          refine V_istore6 rfl eX2_canStep_39 rfl ?_
          refine V_iload1 eX2_canStep_41 ?_
          refine V_iload2 eX2_canStep_42 ?_
          refine C0_static eX2_canStep_43 lmX2_isBeside q2130 q2131 (c_isBeside _ _ _) rfl rfl rfl rfl ?_
          refine V_ifeq eX2_canStep_46 (fun c46 => ?_) (fun c46 => ?_)
          · refine V_iconst (v := 0) (by decide) eX2_canStep_90 ?_
            have hE : (0 : Int32) = o_canStep S a b fr to d := by simp only [o_canStep, if_pos c7, if_pos c20, if_neg c25, if_neg c31, if_pos c46]
            exact V_zreturn eX2_canStep_91 rfl (by decide) (by rw [← hE]; exact ⟨rfl, rfl⟩)
          · refine V_iload6 eX2_canStep_49 ?_
            refine V_ifne eX2_canStep_51 (fun c51 => ?_) (fun c51 => absurd c51 (by decide))
            refine V_iconst (v := 0) (by decide) eX2_canStep_90 ?_
            have hE : (0 : Int32) = o_canStep S a b fr to d := by simp only [o_canStep, if_pos c7, if_pos c20, if_neg c25, if_neg c31, if_neg c46]
            exact V_zreturn eX2_canStep_91 rfl (by decide) (by rw [← hE]; exact ⟨rfl, rfl⟩)

