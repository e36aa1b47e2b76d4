set_option maxRecDepth 100000
def d_X0_gauge_210 (w : Wd) (F : Nat) (k145 : Int32 → Int32 → M Int32) (x : Nat) (a1 : Int32) (a2 : Option Nat) (a3 : Int32) (a4 : Int32) (a5 : Int32) (a6 : Int32) : M Int32 :=
  k145 a5 (a6 + (1 : Int32))
def d_X0_gauge_206 (w : Wd) (F : Nat) (k145 : Int32 → Int32 → M Int32) (x : Nat) (a1 : Int32) (a2 : Option Nat) (a3 : Int32) (a4 : Int32) (a6 : Int32) : M Int32 :=
  d_X0_gauge_210 w F k145 x a1 a2 a3 a4 a6 a6
def d_X0_gauge_175 (w : Wd) (F : Nat) (k145 : Int32 → Int32 → M Int32) (x : Nat) (a1 : Int32) (a2 : Option Nat) (a3 : Int32) (a4 : Int32) (a5 : Int32) (a6 : Int32) : M Int32 :=
  zbd (zv1 0 (some x) (fun a => o_X0_join w F a a1 a2 (a3 ^^^ a6))) fun v9 =>
  zif (v9 = 0) (zbd (zv1 0 (some x) (fun a => o_X0_join w F a a1 a2 (((a3 ^^^ a6) ^^^ (-1 : Int32)) &&& a4))) fun v10 =>
  zif (v10 = 0) (d_X0_gauge_210 w F k145 x a1 a2 a3 a4 a5 a6)
  (d_X0_gauge_206 w F k145 x a1 a2 a3 a4 a6))
  (d_X0_gauge_206 w F k145 x a1 a2 a3 a4 a6)
def B_X0_gauge_145 (w : Wd) (F : Nat) (k145 : Int32 → Int32 → M Int32) (x : Nat) (a1 : Int32) (a2 : Option Nat) (a3 : Int32) (a4 : Int32) (a5 : Int32) (a6 : Int32) : M Int32 :=
  zif (a4 < a6) (zrt a5)
  (zif (a5 = (-5 : Int32)) (d_X0_gauge_175 w F k145 x a1 a2 a3 a4 a5 a6)
  (zbd (o_J13_bitCount w F a6) fun v9 =>
  zbd (o_J13_bitCount w F a5) fun v10 =>
  zif (v9 < v10) (d_X0_gauge_175 w F k145 x a1 a2 a3 a4 a5 a6)
  (d_X0_gauge_210 w F k145 x a1 a2 a3 a4 a5 a6)))
def d_X0_gauge_145 (w : Wd) (F : Nat) (x : Nat) (a1 : Int32) (a2 : Option Nat) (a3 : Int32) (a4 : Int32) : Nat → Int32 → Int32 → M Int32
  | 0, _, _ => zno
  | n + 1, a5, a6 => B_X0_gauge_145 w F (d_X0_gauge_145 w F x a1 a2 a3 a4 n) x a1 a2 a3 a4 a5 a6
def B_X0_gauge_95 (w : Wd) (F : Nat) (k95 : Int32 → Int32 → M Int32) (x : Nat) (a1 : Int32) (a2 : Option Nat) (a3 : Int32) (a4 : Int32) : M Int32 :=
  zbd (zv1 30 a2 (fun a => o_J2_size w F a)) fun v7 =>
  zif (v7 ≤ a4) (zbd (zv1 30 a2 (fun a => o_J2_size w F a)) fun v8 =>
  d_X0_gauge_145 w F x a1 a2 a3 (((1 : Int32) <<< (v8 &&& 31)) - (1 : Int32)) F (-5 : Int32) (0 : Int32))
  (zbd (zv1 30 a2 (fun a => o_J2_get w F a a4)) fun v9 =>
  zbd (zcc y_X18 v9) fun _ =>
  zbd (zgI f_X18_gauge v9) fun v10 =>
  k95 (a3 ||| (v10 <<< (a4 &&& 31))) (a4 + (1 : Int32)))
def d_X0_gauge_95 (w : Wd) (F : Nat) (x : Nat) (a1 : Int32) (a2 : Option Nat) : Nat → Int32 → Int32 → M Int32
  | 0, _, _ => zno
  | n + 1, a3, a4 => B_X0_gauge_95 w F (d_X0_gauge_95 w F x a1 a2 n) x a1 a2 a3 a4
def d_X0_gauge_72 (w : Wd) (F : Nat) (k22 : Int32 → M Int32) (x : Nat) (a1 : Int32) (a2 : Option Nat) (a4 : Int32) : M Int32 :=
  k22 (a4 + (1 : Int32))
def B_X0_gauge_22 (w : Wd) (F : Nat) (k22 : Int32 → M Int32) (x : Nat) (a1 : Int32) (a2 : Option Nat) (a4 : Int32) : M Int32 :=
  zbd (zgR f_X0_papers (some x)) fun v4 =>
  zbd (zv1 30 v4 (fun a => o_J2_size w F a)) fun v5 =>
  zif (v5 ≤ a4) (zbd (zv1 30 a2 (fun a => o_J2_size w F a)) fun v6 =>
  zif (v6 ≤ (10 : Int32)) (d_X0_gauge_95 w F x a1 a2 F (0 : Int32) (0 : Int32))
  (zrt (-9 : Int32)))
  (zbd (zgR f_X0_papers (some x)) fun v7 =>
  zbd (zv1 30 v7 (fun a => o_J2_get w F a a4)) fun v8 =>
  zbd (zio y_X18 n_X18 v8) fun v9 =>
  zif (v9 = 0) (d_X0_gauge_72 w F k22 x a1 a2 a4)
  (zbd (zcc y_X18 v8) fun _ =>
  zbd (zgI f_X18_granted v8) fun v10 =>
  zif (v10 = 0) (d_X0_gauge_72 w F k22 x a1 a2 a4)
  (zbd (zv1 30 a2 (fun a => o_J2_add w F a v8)) fun v11 =>
  d_X0_gauge_72 w F k22 x a1 a2 a4)))
def d_X0_gauge_22 (w : Wd) (F : Nat) (x : Nat) (a1 : Int32) (a2 : Option Nat) : Nat → Int32 → M Int32
  | 0, _ => zno
  | n + 1, a4 => B_X0_gauge_22 w F (d_X0_gauge_22 w F x a1 a2 n) x a1 a2 a4
def o_X0_gauge (w : Wd) (F : Nat) (x : Nat) (a1 : Int32) : M Int32 :=
  zbd (zv1 0 (some x) (fun a => o_X0_areTowns w F a a1)) fun v1 =>
  zif (v1 = 0) (zrt (-2 : Int32))
  (zbd (znw 30 0 3) fun n2 =>
  zbd (znn n2 (fun a => o_J2_init w F a)) fun _ =>
  d_X0_gauge_22 w F x a1 n2 F (0 : Int32))
theorem b_X0_gauge_210 {w : Wd} {F : Nat} {k145 : Int32 → Int32 → M Int32} {x : Nat} {a1 : Int32} {a2 : Option Nat} {a3 : Int32} {a4 : Int32} (hk145 : ∀ (a5 : Int32) (a6 : Int32) (h : Hp) (y : Int32) (h1 : Hp) (c s : Nat), k145 a5 a6 h = some (y, h1, c, s) → V w mX0_gauge cX0_gauge 7 c s h 145 [some (va_rf (some x)), some (.int a1), some (va_rf a2), some (.int a3), some (.int a4), some (.int a5), some (.int a6)] [] (Ro (oI y) h1)) {a5 : Int32} {a6 : Int32} {h h1 : Hp} {y : Int32} {c s : Nat} (H : d_X0_gauge_210 w F k145 x a1 a2 a3 a4 a5 a6 h = some (y, h1, c, s)) : V w mX0_gauge cX0_gauge 7 c s h 210 [some (va_rf (some x)), some (.int a1), some (va_rf a2), some (.int a3), some (.int a4), some (.int a5), some (.int a6)] [] (Ro (oI y) h1) := by
  unfold d_X0_gauge_210 at H
  refine V_iinc6 rfl eX0_gauge_210 rfl (v := 1) (by decide) ?_
  refine V_goto eX0_gauge_213 ?_
  exact V_fg2 (hk145 _ _ _ _ _ _ _ H) (zfg_k (zfg_k (zfg_k (zfg_k (zfg_k (zfg_k (zfg_k zfg_e)))))))
theorem b_X0_gauge_206 {w : Wd} {F : Nat} {k145 : Int32 → Int32 → M Int32} {x : Nat} {a1 : Int32} {a2 : Option Nat} {a3 : Int32} {a4 : Int32} (hk145 : ∀ (a5 : Int32) (a6 : Int32) (h : Hp) (y : Int32) (h1 : Hp) (c s : Nat), k145 a5 a6 h = some (y, h1, c, s) → V w mX0_gauge cX0_gauge 7 c s h 145 [some (va_rf (some x)), some (.int a1), some (va_rf a2), some (.int a3), some (.int a4), some (.int a5), some (.int a6)] [] (Ro (oI y) h1)) {a6 : Int32} {h h1 : Hp} {y : Int32} {c s : Nat} (H : d_X0_gauge_206 w F k145 x a1 a2 a3 a4 a6 h = some (y, h1, c, s)) : V w mX0_gauge cX0_gauge 7 c s h 206 [some (va_rf (some x)), some (.int a1), some (va_rf a2), some (.int a3), some (.int a4), none, some (.int a6)] [] (Ro (oI y) h1) := by
  unfold d_X0_gauge_206 at H
  refine V_iload6 eX0_gauge_206 ?_
  refine V_istore5 rfl eX0_gauge_208 rfl ?_
  exact V_fg2 (b_X0_gauge_210 hk145 H) (zfg_k (zfg_k (zfg_k (zfg_k (zfg_k (zfg_k (zfg_k zfg_e)))))))
theorem b_X0_gauge_175 {w : Wd} {F : Nat} {k145 : Int32 → Int32 → M Int32} {x : Nat} {a1 : Int32} {a2 : Option Nat} {a3 : Int32} {a4 : Int32} (hk145 : ∀ (a5 : Int32) (a6 : Int32) (h : Hp) (y : Int32) (h1 : Hp) (c s : Nat), k145 a5 a6 h = some (y, h1, c, s) → V w mX0_gauge cX0_gauge 7 c s h 145 [some (va_rf (some x)), some (.int a1), some (va_rf a2), some (.int a3), some (.int a4), some (.int a5), some (.int a6)] [] (Ro (oI y) h1)) {a5 : Int32} {a6 : Int32} {h h1 : Hp} {y : Int32} {c s : Nat} (H : d_X0_gauge_175 w F k145 x a1 a2 a3 a4 a5 a6 h = some (y, h1, c, s)) : V w mX0_gauge cX0_gauge 7 c s h 175 [some (va_rf (some x)), some (.int a1), some (va_rf a2), some (.int a3), some (.int a4), some (.int a5), some (.int a6)] [] (Ro (oI y) h1) := by
  unfold d_X0_gauge_175 at H
  refine V_aload0 eX0_gauge_175 (zrf_rf _) ?_
  refine V_iload1 eX0_gauge_176 ?_
  refine V_aload2 eX0_gauge_177 (zrf_rf _) ?_
  refine V_iload3 eX0_gauge_178 ?_
  refine V_iload6 eX0_gauge_179 ?_
  refine V_ixor eX0_gauge_181 ?_
  refine D_callI (pc' := 185) (st := []) H (fun v h' c1 s1 e cb sb k => ?_) (fun v9 h c s H => ?_)
  · obtain ⟨a, hr, ha, hk, e9⟩ := zv1_ok e
    cases hr
    exact V_invokevirtual (k := 0) eX0_gauge_182 lmX0_join q1595 q1597 rfl rfl qs48 ha hk (c_X0_join e9) (hRet_oI _ _) rfl rfl rfl rfl (kOI k)
  refine V_ifne eX0_gauge_185 (fun q => ?_) (fun q => ?_)
  · have H := zif_f q H
    exact V_fg2 (b_X0_gauge_206 hk145 H) (zfg_k (zfg_k (zfg_k (zfg_k (zfg_k (zfg_n (zfg_k zfg_e)))))))
  · have H := zif_t q H
    refine V_aload0 eX0_gauge_188 (zrf_rf _) ?_
    refine V_iload1 eX0_gauge_189 ?_
    refine V_aload2 eX0_gauge_190 (zrf_rf _) ?_
    refine V_iload3 eX0_gauge_191 ?_
    refine V_iload6 eX0_gauge_192 ?_
    refine V_ixor eX0_gauge_194 ?_
    refine V_iconst (v := -1) (by decide) eX0_gauge_195 ?_
    refine V_ixor eX0_gauge_196 ?_
    refine V_iload4 eX0_gauge_197 ?_
    refine V_iand eX0_gauge_199 ?_
    refine D_callI (pc' := 203) (st := []) H (fun v h' c1 s1 e cb sb k => ?_) (fun v10 h c s H => ?_)
    · obtain ⟨a, hr, ha, hk, e9⟩ := zv1_ok e
      cases hr
      exact V_invokevirtual (k := 0) eX0_gauge_200 lmX0_join q1595 q1597 rfl rfl qs48 ha hk (c_X0_join e9) (hRet_oI _ _) rfl rfl rfl rfl (kOI k)
    refine V_ifeq eX0_gauge_203 (fun q => ?_) (fun q => ?_)
    · have H := zif_t q H
      exact V_fg2 (b_X0_gauge_210 hk145 H) (zfg_k (zfg_k (zfg_k (zfg_k (zfg_k (zfg_k (zfg_k zfg_e)))))))
    · have H := zif_f q H
      exact V_fg2 (b_X0_gauge_206 hk145 H) (zfg_k (zfg_k (zfg_k (zfg_k (zfg_k (zfg_n (zfg_k zfg_e)))))))
theorem bB_X0_gauge_145 {w : Wd} {F : Nat} {k145 : Int32 → Int32 → M Int32} {x : Nat} {a1 : Int32} {a2 : Option Nat} {a3 : Int32} {a4 : Int32} (hk145 : ∀ (a5 : Int32) (a6 : Int32) (h : Hp) (y : Int32) (h1 : Hp) (c s : Nat), k145 a5 a6 h = some (y, h1, c, s) → V w mX0_gauge cX0_gauge 7 c s h 145 [some (va_rf (some x)), some (.int a1), some (va_rf a2), some (.int a3), some (.int a4), some (.int a5), some (.int a6)] [] (Ro (oI y) h1)) {a5 : Int32} {a6 : Int32} {h h1 : Hp} {y : Int32} {c s : Nat} (H : B_X0_gauge_145 w F k145 x a1 a2 a3 a4 a5 a6 h = some (y, h1, c, s)) : V w mX0_gauge cX0_gauge 7 c s h 145 [some (va_rf (some x)), some (.int a1), some (va_rf a2), some (.int a3), some (.int a4), some (.int a5), some (.int a6)] [] (Ro (oI y) h1) := by
  unfold B_X0_gauge_145 at H
  refine V_iload6 eX0_gauge_145 ?_
  refine V_iload4 eX0_gauge_147 ?_
  refine V_if_icmpgt eX0_gauge_149 (fun q => ?_) (fun q => ?_)
  · have H := zif_t q H
    refine V_iload5 eX0_gauge_216 ?_
    obtain ⟨rfl, rfl, rfl, rfl⟩ := zrt_ok H
    exact V_ireturn eX0_gauge_218 rfl ⟨rfl, rfl⟩
  · have H := zif_f q H
    refine V_iload5 eX0_gauge_152 ?_
    refine V_bipush (v := -5) (by decide) eX0_gauge_154 ?_
    refine V_if_icmpeq eX0_gauge_156 (fun q => ?_) (fun q => ?_)
    · have H := zif_t q H
      exact V_fg2 (b_X0_gauge_175 hk145 H) (zfg_k (zfg_k (zfg_k (zfg_k (zfg_k (zfg_k (zfg_k zfg_e)))))))
    · have H := zif_f q H
      refine V_iload6 eX0_gauge_159 ?_
      refine D_callI (pc' := 164) (st := []) H (fun v h' c1 s1 e cb sb k => ?_) (fun v9 h c s H => ?_)
      · exact V_invokestatic eX0_gauge_161 lmJ13_bitCount q1589 q1590 (c_J13_bitCount e) (hRet_oI _ _) rfl rfl rfl rfl (kOI k)
      refine V_iload5 eX0_gauge_164 ?_
      refine D_callI (pc' := 169) (st := [.int v9]) H (fun v h' c1 s1 e cb sb k => ?_) (fun v10 h c s H => ?_)
      · exact V_invokestatic eX0_gauge_166 lmJ13_bitCount q1589 q1590 (c_J13_bitCount e) (hRet_oI _ _) rfl rfl rfl rfl (kOI k)
      refine V_if_icmplt eX0_gauge_169 (fun q => ?_) (fun q => ?_)
      · have H := zif_t q H
        exact V_fg2 (b_X0_gauge_175 hk145 H) (zfg_k (zfg_k (zfg_k (zfg_k (zfg_k (zfg_k (zfg_k zfg_e)))))))
      · have H := zif_f q H
        refine V_goto eX0_gauge_172 ?_
        exact V_fg2 (b_X0_gauge_210 hk145 H) (zfg_k (zfg_k (zfg_k (zfg_k (zfg_k (zfg_k (zfg_k zfg_e)))))))
theorem b_X0_gauge_145 {w : Wd} {F : Nat} {x : Nat} {a1 : Int32} {a2 : Option Nat} {a3 : Int32} {a4 : Int32} : ∀ (n : Nat) (a5 : Int32) (a6 : Int32) (h : Hp) (y : Int32) (h1 : Hp) (c s : Nat), d_X0_gauge_145 w F x a1 a2 a3 a4 n a5 a6 h = some (y, h1, c, s) → V w mX0_gauge cX0_gauge 7 c s h 145 [some (va_rf (some x)), some (.int a1), some (va_rf a2), some (.int a3), some (.int a4), some (.int a5), some (.int a6)] [] (Ro (oI y) h1) := by
  intro n
  induction n with
  | zero => intro a5 a6 h y h1 c s H; exact zno_no H
  | succ n ih => intro a5 a6 h y h1 c s H; exact bB_X0_gauge_145 ih H
theorem bB_X0_gauge_95 {w : Wd} {F : Nat} {k95 : Int32 → Int32 → M Int32} {x : Nat} {a1 : Int32} {a2 : Option Nat} (hk95 : ∀ (a3 : Int32) (a4 : Int32) (h : Hp) (y : Int32) (h1 : Hp) (c s : Nat), k95 a3 a4 h = some (y, h1, c, s) → V w mX0_gauge cX0_gauge 7 c s h 95 [some (va_rf (some x)), some (.int a1), some (va_rf a2), some (.int a3), some (.int a4), none, none] [] (Ro (oI y) h1)) {a3 : Int32} {a4 : Int32} {h h1 : Hp} {y : Int32} {c s : Nat} (H : B_X0_gauge_95 w F k95 x a1 a2 a3 a4 h = some (y, h1, c, s)) : V w mX0_gauge cX0_gauge 7 c s h 95 [some (va_rf (some x)), some (.int a1), some (va_rf a2), some (.int a3), some (.int a4), none, none] [] (Ro (oI y) h1) := by
  unfold B_X0_gauge_95 at H
  refine V_iload4 eX0_gauge_95 ?_
  refine V_aload2 eX0_gauge_97 (zrf_rf _) ?_
  refine D_callI (pc' := 101) (st := [.int a4]) H (fun v h' c1 s1 e cb sb k => ?_) (fun v7 h c s H => ?_)
  · obtain ⟨a, hr, ha, hk, e9⟩ := zv1_ok e
    cases hr
    exact V_invokevirtual (k := 30) eX0_gauge_98 lmJ2_size q156 q157 rfl rfl q158 ha hk (c_J2_size e9) (hRet_oI _ _) rfl rfl rfl rfl (kOI k)
  refine V_if_icmpge eX0_gauge_101 (fun q => ?_) (fun q => ?_)
  · have H := zif_t q H
    refine V_iconst (v := 1) (by decide) eX0_gauge_128 ?_
    refine V_aload2 eX0_gauge_129 (zrf_rf _) ?_
    refine D_callI (pc' := 133) (st := [.int (1 : Int32)]) H (fun v h' c1 s1 e cb sb k => ?_) (fun v8 h c s H => ?_)
    · obtain ⟨a, hr, ha, hk, e9⟩ := zv1_ok e
      cases hr
      exact V_invokevirtual (k := 30) eX0_gauge_130 lmJ2_size q156 q157 rfl rfl q158 ha hk (c_J2_size e9) (hRet_oI _ _) rfl rfl rfl rfl (kOI k)
    refine V_ishl eX0_gauge_133 ?_
    refine V_iconst (v := 1) (by decide) eX0_gauge_134 ?_
    refine V_isub eX0_gauge_135 ?_
    refine V_istore4 rfl eX0_gauge_136 rfl ?_
    refine V_bipush (v := -5) (by decide) eX0_gauge_138 ?_
    refine V_istore5 rfl eX0_gauge_140 rfl ?_
    refine V_iconst (v := 0) (by decide) eX0_gauge_142 ?_
    refine V_istore6 rfl eX0_gauge_143 rfl ?_
    exact V_fg2 (b_X0_gauge_145 _ _ _ _ _ _ _ _ H) (zfg_k (zfg_k (zfg_k (zfg_k (zfg_k (zfg_k (zfg_k zfg_e)))))))
  · have H := zif_f q H
    refine V_iload3 eX0_gauge_104 ?_
    refine V_aload2 eX0_gauge_105 (zrf_rf _) ?_
    refine V_iload4 eX0_gauge_106 ?_
    refine D_callR (pc' := 111) (st := [.int a3]) H (fun v h' c1 s1 e cb sb k => ?_) (fun v9 h c s H => ?_)
    · obtain ⟨a, hr, ha, hk, e9⟩ := zv1_ok e
      cases hr
      exact V_invokevirtual (k := 30) eX0_gauge_108 lmJ2_get q160 q161 rfl rfl q162 ha hk (c_J2_get e9) (hRet_oR _ _) rfl rfl rfl rfl (kOR k)
    refine D_cast eX0_gauge_111 q1014 y_X18_ok H (fun H => ?_)
    refine D_gI eX0_gauge_114 fq_X0_513_tI H (fun v10 H => ?_)
    refine V_iload4 eX0_gauge_117 ?_
    refine V_ishl eX0_gauge_119 ?_
    refine V_ior eX0_gauge_120 ?_
    refine V_istore3 (znl_rf _) eX0_gauge_121 rfl ?_
    refine V_iinc4 rfl eX0_gauge_122 rfl (v := 1) (by decide) ?_
    refine V_goto eX0_gauge_125 ?_
    exact V_fg2 (hk95 _ _ _ _ _ _ _ H) (zfg_k (zfg_k (zfg_k (zfg_k (zfg_k (zfg_n (zfg_n zfg_e)))))))
theorem b_X0_gauge_95 {w : Wd} {F : Nat} {x : Nat} {a1 : Int32} {a2 : Option Nat} : ∀ (n : Nat) (a3 : Int32) (a4 : Int32) (h : Hp) (y : Int32) (h1 : Hp) (c s : Nat), d_X0_gauge_95 w F x a1 a2 n a3 a4 h = some (y, h1, c, s) → V w mX0_gauge cX0_gauge 7 c s h 95 [some (va_rf (some x)), some (.int a1), some (va_rf a2), some (.int a3), some (.int a4), none, none] [] (Ro (oI y) h1) := by
  intro n
  induction n with
  | zero => intro a3 a4 h y h1 c s H; exact zno_no H
  | succ n ih => intro a3 a4 h y h1 c s H; exact bB_X0_gauge_95 ih H
theorem b_X0_gauge_72 {w : Wd} {F : Nat} {k22 : Int32 → M Int32} {x : Nat} {a1 : Int32} {a2 : Option Nat} (hk22 : ∀ (a4 : Int32) (h : Hp) (y : Int32) (h1 : Hp) (c s : Nat), k22 a4 h = some (y, h1, c, s) → V w mX0_gauge cX0_gauge 7 c s h 22 [some (va_rf (some x)), some (.int a1), some (va_rf a2), none, some (.int a4), none, none] [] (Ro (oI y) h1)) {a4 : Int32} {h h1 : Hp} {y : Int32} {c s : Nat} (H : d_X0_gauge_72 w F k22 x a1 a2 a4 h = some (y, h1, c, s)) : V w mX0_gauge cX0_gauge 7 c s h 72 [some (va_rf (some x)), some (.int a1), some (va_rf a2), none, some (.int a4), none, none] [] (Ro (oI y) h1) := by
  unfold d_X0_gauge_72 at H
  refine V_iinc4 rfl eX0_gauge_72 rfl (v := 1) (by decide) ?_
  refine V_goto eX0_gauge_75 ?_
  exact V_fg2 (hk22 _ _ _ _ _ _ H) (zfg_k (zfg_k (zfg_k (zfg_n (zfg_k (zfg_n (zfg_n zfg_e)))))))
theorem bB_X0_gauge_22 {w : Wd} {F : Nat} {k22 : Int32 → M Int32} {x : Nat} {a1 : Int32} {a2 : Option Nat} (hk22 : ∀ (a4 : Int32) (h : Hp) (y : Int32) (h1 : Hp) (c s : Nat), k22 a4 h = some (y, h1, c, s) → V w mX0_gauge cX0_gauge 7 c s h 22 [some (va_rf (some x)), some (.int a1), some (va_rf a2), none, some (.int a4), none, none] [] (Ro (oI y) h1)) {a4 : Int32} {h h1 : Hp} {y : Int32} {c s : Nat} (H : B_X0_gauge_22 w F k22 x a1 a2 a4 h = some (y, h1, c, s)) : V w mX0_gauge cX0_gauge 7 c s h 22 [some (va_rf (some x)), some (.int a1), some (va_rf a2), none, some (.int a4), none, none] [] (Ro (oI y) h1) := by
  unfold B_X0_gauge_22 at H
  refine V_iload4 eX0_gauge_22 ?_
  refine V_aload0 eX0_gauge_24 (zrf_rf _) ?_
  refine D_gR eX0_gauge_25 fq_X0_121_tR H (fun v4 H => ?_)
  refine D_callI (pc' := 31) (st := [.int a4]) H (fun v h' c1 s1 e cb sb k => ?_) (fun v5 h c s H => ?_)
  · obtain ⟨a, hr, ha, hk, e9⟩ := zv1_ok e
    cases hr
    exact V_invokevirtual (k := 30) eX0_gauge_28 lmJ2_size q156 q157 rfl rfl q158 ha hk (c_J2_size e9) (hRet_oI _ _) rfl rfl rfl rfl (kOI k)
  refine V_if_icmpge eX0_gauge_31 (fun q => ?_) (fun q => ?_)
  · have H := zif_t q H
    refine V_aload2 eX0_gauge_78 (zrf_rf _) ?_
    refine D_callI (pc' := 82) (st := []) H (fun v h' c1 s1 e cb sb k => ?_) (fun v6 h c s H => ?_)
    · obtain ⟨a, hr, ha, hk, e9⟩ := zv1_ok e
      cases hr
      exact V_invokevirtual (k := 30) eX0_gauge_79 lmJ2_size q156 q157 rfl rfl q158 ha hk (c_J2_size e9) (hRet_oI _ _) rfl rfl rfl rfl (kOI k)
    refine V_bipush (v := 10) (by decide) eX0_gauge_82 ?_
    refine V_if_icmple eX0_gauge_84 (fun q => ?_) (fun q => ?_)
    · have H := zif_t q H
      refine V_iconst (v := 0) (by decide) eX0_gauge_90 ?_
      refine V_istore3 (znl_rf _) eX0_gauge_91 rfl ?_
      refine V_iconst (v := 0) (by decide) eX0_gauge_92 ?_
      refine V_istore4 rfl eX0_gauge_93 rfl ?_
      exact V_fg2 (b_X0_gauge_95 _ _ _ _ _ _ _ _ H) (zfg_k (zfg_k (zfg_k (zfg_k (zfg_k (zfg_n (zfg_n zfg_e)))))))
    · have H := zif_f q H
      refine V_bipush (v := -9) (by decide) eX0_gauge_87 ?_
      obtain ⟨rfl, rfl, rfl, rfl⟩ := zrt_ok H
      exact V_ireturn eX0_gauge_89 rfl ⟨rfl, rfl⟩
  · have H := zif_f q H
    refine V_aload0 eX0_gauge_34 (zrf_rf _) ?_
    refine D_gR eX0_gauge_35 fq_X0_121_tR H (fun v7 H => ?_)
    refine V_iload4 eX0_gauge_38 ?_
    refine D_callR (pc' := 43) (st := []) H (fun v h' c1 s1 e cb sb k => ?_) (fun v8 h c s H => ?_)
    · obtain ⟨a, hr, ha, hk, e9⟩ := zv1_ok e
      cases hr
      exact V_invokevirtual (k := 30) eX0_gauge_40 lmJ2_get q160 q161 rfl rfl q162 ha hk (c_J2_get e9) (hRet_oR _ _) rfl rfl rfl rfl (kOR k)
    refine V_astore5 rfl eX0_gauge_43 rfl (zrf_rf _) ?_
    refine V_aload5 eX0_gauge_45 (zrf_rf _) ?_
    refine D_inst eX0_gauge_47 q1014 y_X18_ok n_X18_ok H (fun v9 H => ?_)
    refine V_ifeq eX0_gauge_50 (fun q => ?_) (fun q => ?_)
    · have H := zif_t q H
      exact V_fg2 (b_X0_gauge_72 hk22 H) (zfg_k (zfg_k (zfg_k (zfg_n (zfg_k (zfg_n (zfg_n zfg_e)))))))
    · have H := zif_f q H
      refine V_aload5 eX0_gauge_53 (zrf_rf _) ?_
      refine D_cast eX0_gauge_55 q1014 y_X18_ok H (fun H => ?_)
      refine V_astore3 (znl_rf _) eX0_gauge_58 rfl (zrf_rf _) ?_
      refine V_aload3 eX0_gauge_59 (zrf_rf _) ?_
      refine D_gI eX0_gauge_60 fq_X0_344_tI H (fun v10 H => ?_)
      refine V_ifeq eX0_gauge_63 (fun q => ?_) (fun q => ?_)
      · have H := zif_t q H
        exact V_fg2 (b_X0_gauge_72 hk22 H) (zfg_k (zfg_k (zfg_k (zfg_n (zfg_k (zfg_n (zfg_n zfg_e)))))))
      · have H := zif_f q H
        refine V_aload2 eX0_gauge_66 (zrf_rf _) ?_
        refine V_aload3 eX0_gauge_67 (zrf_rf _) ?_
        refine D_callI (pc' := 71) (st := []) H (fun v h' c1 s1 e cb sb k => ?_) (fun v11 h c s H => ?_)
        · obtain ⟨a, hr, ha, hk, e9⟩ := zv1_ok e
          cases hr
          exact V_invokevirtual (k := 30) eX0_gauge_68 lmJ2_add q196 q197 rfl rfl q198 ha hk (c_J2_add e9) (hRet_oI _ _) rfl rfl rfl rfl (kOI k)
        refine V_pop rfl eX0_gauge_71 ?_
        exact V_fg2 (b_X0_gauge_72 hk22 H) (zfg_k (zfg_k (zfg_k (zfg_n (zfg_k (zfg_n (zfg_n zfg_e)))))))
theorem b_X0_gauge_22 {w : Wd} {F : Nat} {x : Nat} {a1 : Int32} {a2 : Option Nat} : ∀ (n : Nat) (a4 : Int32) (h : Hp) (y : Int32) (h1 : Hp) (c s : Nat), d_X0_gauge_22 w F x a1 a2 n a4 h = some (y, h1, c, s) → V w mX0_gauge cX0_gauge 7 c s h 22 [some (va_rf (some x)), some (.int a1), some (va_rf a2), none, some (.int a4), none, none] [] (Ro (oI y) h1) := by
  intro n
  induction n with
  | zero => intro a4 h y h1 c s H; exact zno_no H
  | succ n ih => intro a4 h y h1 c s H; exact bB_X0_gauge_22 ih H
theorem c_X0_gauge {w : Wd} {F : Nat} {x : Nat} {a1 : Int32} {h h1 : Hp} {y : Int32} {c s : Nat} (H : o_X0_gauge w F x a1 h = some (y, h1, c, s)) : Con w mX0_gauge cX0_gauge 7 c s [.ref x, .int a1] h (Ro (oI y) h1) := by
  unfold o_X0_gauge at H
  refine Con.of (ls := [some (va_rf (some x)), some (.int a1), none, none, none, none, none]) (by decide +kernel) rfl rfl ?_
  refine V_aload0 eX0_gauge_0 (zrf_rf _) ?_
  refine V_iload1 eX0_gauge_1 ?_
  refine D_callI (pc' := 5) (st := []) H (fun v h' c1 s1 e cb sb k => ?_) (fun v1 h c s H => ?_)
  · obtain ⟨a, hr, ha, hk, e9⟩ := zv1_ok e
    cases hr
    exact V_invokevirtual (k := 0) eX0_gauge_2 lmX0_areTowns q1585 q1587 rfl rfl qs47 ha hk (c_X0_areTowns e9) (hRet_oI _ _) rfl rfl rfl rfl (kOI k)
  refine V_ifne eX0_gauge_5 (fun q => ?_) (fun q => ?_)
  · have H := zif_f q H
    refine D_new (g := 0) eX0_gauge_11 nl_X0_33 rfl H (fun n2 h c s H => ?_)
    refine V_dup (zcr _) eX0_gauge_14 ?_
    refine D_callU (pc' := 18) (st := [va_rf n2]) H (fun v h' c1 s1 e cb sb k => ?_) (fun v3 h c s H => ?_)
    · obtain ⟨a, hr, e9⟩ := znn_ok e
      cases hr
      exact V_invokeinit eX0_gauge_15 lmJ2_init rfl rfl q561 q308 (c_J2_init e9) (hRet_oU _ _) rfl rfl rfl (by simp only [List.map_cons, List.map_nil, zcr]; rfl) (kOU k)
    refine V_astore2 rfl eX0_gauge_18 rfl (zrf_rf _) ?_
    refine V_iconst (v := 0) (by decide) eX0_gauge_19 ?_
    refine V_istore4 rfl eX0_gauge_20 rfl ?_
    exact V_fg2 (b_X0_gauge_22 _ _ _ _ _ _ _ H) (zfg_k (zfg_k (zfg_k (zfg_n (zfg_k (zfg_n (zfg_n zfg_e)))))))
  · have H := zif_t q H
    refine V_bipush (v := -2) (by decide) eX0_gauge_8 ?_
    obtain ⟨rfl, rfl, rfl, rfl⟩ := zrt_ok H
    exact V_ireturn eX0_gauge_10 rfl ⟨rfl, rfl⟩
def f_X18_number : Nat → Option Nat := fun k => match k with
  | 13 => some 0
  | 15 => some 0
  | 17 => some 0
  | 18 => some 0
  | 21 => some 0
  | 22 => some 0
  | _ => none
theorem fq_X0_529_tI : FQ RX0 529 f_X18_number tI := by
  intro k j e
  unfold f_X18_number at e
  split at e
  · cases e; exact ⟨fl_X0_529_13, Or.inl rfl⟩
  · cases e; exact ⟨fl_X0_529_15, Or.inl rfl⟩
  · cases e; exact ⟨fl_X0_529_17, Or.inl rfl⟩
  · cases e; exact ⟨fl_X0_529_18, Or.inl rfl⟩
  · cases e; exact ⟨fl_X0_529_21, Or.inl rfl⟩
  · cases e; exact ⟨fl_X0_529_22, Or.inl rfl⟩
  · cases e
def d_X0_barsSome_71 (w : Wd) (F : Nat) (k13 : Int32 → M Int32) (a1 : Option Nat) (a2 : Int32) (a3 : Int32) (a4 : Int32) : M Int32 :=
  k13 (a4 + (1 : Int32))
def B_X0_barsSome_13 (w : Wd) (F : Nat) (k2 : Int32 → M Int32) (k13 : Int32 → M Int32) (a1 : Option Nat) (a2 : Int32) (a3 : Int32) (a4 : Int32) : M Int32 :=
  zif (a3 ≤ a4) (k2 (a3 + (1 : Int32)))
  (zif (((a2 >>> (a3 &&& 31)) &&& (1 : Int32)) = (1 : Int32)) (zif (((a2 >>> (a4 &&& 31)) &&& (1 : Int32)) = (1 : Int32)) (zbd (zv1 30 a1 (fun a => o_J2_get w F a a3)) fun v2 =>
  zbd (zcc y_X18 v2) fun _ =>
  zbd (zgL f_X18_barred v2) fun v3 =>
  zbd (zv1 30 a1 (fun a => o_J2_get w F a a4)) fun v4 =>
  zbd (zcc y_X18 v4) fun _ =>
  zbd (zgI f_X18_number v4) fun v5 =>
  zif ((lg_cmp ((v3 >>> ((v5).toInt64 &&& 63)) &&& (1 : Int64)) (1 : Int64)) = 0) (zbd (zgd ((1 : Int32) = 0 ∨ (1 : Int32) = 1)) fun _ => zrt (1 : Int32))
  (d_X0_barsSome_71 w F k13 a1 a2 a3 a4))
  (d_X0_barsSome_71 w F k13 a1 a2 a3 a4))
  (d_X0_barsSome_71 w F k13 a1 a2 a3 a4))
def d_X0_barsSome_13 (w : Wd) (F : Nat) (k2 : Int32 → M Int32) (a1 : Option Nat) (a2 : Int32) (a3 : Int32) : Nat → Int32 → M Int32
  | 0, _ => zno
  | n + 1, a4 => B_X0_barsSome_13 w F k2 (d_X0_barsSome_13 w F k2 a1 a2 a3 n) a1 a2 a3 a4
def B_X0_barsSome_2 (w : Wd) (F : Nat) (k2 : Int32 → M Int32) (a1 : Option Nat) (a2 : Int32) (a3 : Int32) : M Int32 :=
  zbd (zv1 30 a1 (fun a => o_J2_size w F a)) fun v1 =>
  zif (v1 ≤ a3) (zbd (zgd ((0 : Int32) = 0 ∨ (0 : Int32) = 1)) fun _ => zrt (0 : Int32))
  (d_X0_barsSome_13 w F k2 a1 a2 a3 F (0 : Int32))
def d_X0_barsSome_2 (w : Wd) (F : Nat) (a1 : Option Nat) (a2 : Int32) : Nat → Int32 → M Int32
  | 0, _ => zno
  | n + 1, a3 => B_X0_barsSome_2 w F (d_X0_barsSome_2 w F a1 a2 n) a1 a2 a3
def o_X0_barsSome (w : Wd) (F : Nat) (x : Nat) (a1 : Option Nat) (a2 : Int32) : M Int32 :=
  d_X0_barsSome_2 w F a1 a2 F (0 : Int32)
theorem b_X0_barsSome_71 {w : Wd} {F : Nat} {k13 : Int32 → M Int32} {a1 : Option Nat} {a2 : Int32} {a3 : Int32} (hk13 : ∀ (a4 : Int32) (h : Hp) (y : Int32) (h1 : Hp) (c s : Nat), k13 a4 h = some (y, h1, c, s) → V w mX0_barsSome cX0_barsSome 3 c s h 13 [none, some (va_rf a1), some (.int a2), some (.int a3), some (.int a4)] [] (Ro (oI y) h1)) {a4 : Int32} {h h1 : Hp} {y : Int32} {c s : Nat} (H : d_X0_barsSome_71 w F k13 a1 a2 a3 a4 h = some (y, h1, c, s)) : V w mX0_barsSome cX0_barsSome 3 c s h 71 [none, some (va_rf a1), some (.int a2), some (.int a3), some (.int a4)] [] (Ro (oI y) h1) := by
  unfold d_X0_barsSome_71 at H
  refine V_iinc4 rfl eX0_barsSome_71 rfl (v := 1) (by decide) ?_
  refine V_goto eX0_barsSome_74 ?_
  exact V_fg2 (hk13 _ _ _ _ _ _ H) (zfg_n (zfg_k (zfg_k (zfg_k (zfg_k zfg_e)))))
theorem bB_X0_barsSome_13 {w : Wd} {F : Nat} {k2 : Int32 → M Int32} {k13 : Int32 → M Int32} {a1 : Option Nat} {a2 : Int32} {a3 : Int32} (hk2 : ∀ (a3 : Int32) (h : Hp) (y : Int32) (h1 : Hp) (c s : Nat), k2 a3 h = some (y, h1, c, s) → V w mX0_barsSome cX0_barsSome 3 c s h 2 [none, some (va_rf a1), some (.int a2), some (.int a3), none] [] (Ro (oI y) h1)) (hk13 : ∀ (a4 : Int32) (h : Hp) (y : Int32) (h1 : Hp) (c s : Nat), k13 a4 h = some (y, h1, c, s) → V w mX0_barsSome cX0_barsSome 3 c s h 13 [none, some (va_rf a1), some (.int a2), some (.int a3), some (.int a4)] [] (Ro (oI y) h1)) {a4 : Int32} {h h1 : Hp} {y : Int32} {c s : Nat} (H : B_X0_barsSome_13 w F k2 k13 a1 a2 a3 a4 h = some (y, h1, c, s)) : V w mX0_barsSome cX0_barsSome 3 c s h 13 [none, some (va_rf a1), some (.int a2), some (.int a3), some (.int a4)] [] (Ro (oI y) h1) := by
  unfold B_X0_barsSome_13 at H
  refine V_iload4 eX0_barsSome_13 ?_
  refine V_iload3 eX0_barsSome_15 ?_
  refine V_if_icmpge eX0_barsSome_16 (fun q => ?_) (fun q => ?_)
  · have H := zif_t q H
    refine V_iinc3 rfl eX0_barsSome_77 rfl (v := 1) (by decide) ?_
    refine V_goto eX0_barsSome_80 ?_
    exact V_fg2 (hk2 _ _ _ _ _ _ H) (zfg_n (zfg_k (zfg_k (zfg_k (zfg_n zfg_e)))))
  · have H := zif_f q H
    refine V_iload2 eX0_barsSome_19 ?_
    refine V_iload3 eX0_barsSome_20 ?_
    refine V_ishr eX0_barsSome_21 ?_
    refine V_iconst (v := 1) (by decide) eX0_barsSome_22 ?_
    refine V_iand eX0_barsSome_23 ?_
    refine V_iconst (v := 1) (by decide) eX0_barsSome_24 ?_
    refine V_if_icmpne eX0_barsSome_25 (fun q => ?_) (fun q => ?_)
    · have H := zif_f q H
      exact V_fg2 (b_X0_barsSome_71 hk13 H) (zfg_n (zfg_k (zfg_k (zfg_k (zfg_k zfg_e)))))
    · have H := zif_t q H
      refine V_iload2 eX0_barsSome_28 ?_
      refine V_iload4 eX0_barsSome_29 ?_
      refine V_ishr eX0_barsSome_31 ?_
      refine V_iconst (v := 1) (by decide) eX0_barsSome_32 ?_
      refine V_iand eX0_barsSome_33 ?_
      refine V_iconst (v := 1) (by decide) eX0_barsSome_34 ?_
      refine V_if_icmpne eX0_barsSome_35 (fun q => ?_) (fun q => ?_)
      · have H := zif_f q H
        exact V_fg2 (b_X0_barsSome_71 hk13 H) (zfg_n (zfg_k (zfg_k (zfg_k (zfg_k zfg_e)))))
      · have H := zif_t q H
        refine V_aload1 eX0_barsSome_38 (zrf_rf _) ?_
        refine V_iload3 eX0_barsSome_39 ?_
        refine D_callR (pc' := 43) (st := []) H (fun v h' c1 s1 e cb sb k => ?_) (fun v2 h c s H => ?_)
        · obtain ⟨a, hr, ha, hk, e9⟩ := zv1_ok e
          cases hr
          exact V_invokevirtual (k := 30) eX0_barsSome_40 lmJ2_get q160 q161 rfl rfl q162 ha hk (c_J2_get e9) (hRet_oR _ _) rfl rfl rfl rfl (kOR k)
        refine D_cast eX0_barsSome_43 q1014 y_X18_ok H (fun H => ?_)
        refine D_gL eX0_barsSome_46 fq_X0_340_tL H (fun v3 H => ?_)
        refine V_aload1 eX0_barsSome_49 (zrf_rf _) ?_
        refine V_iload4 eX0_barsSome_50 ?_
        refine D_callR (pc' := 55) (st := [.long v3]) H (fun v h' c1 s1 e cb sb k => ?_) (fun v4 h c s H => ?_)
        · obtain ⟨a, hr, ha, hk, e9⟩ := zv1_ok e
          cases hr
          exact V_invokevirtual (k := 30) eX0_barsSome_52 lmJ2_get q160 q161 rfl rfl q162 ha hk (c_J2_get e9) (hRet_oR _ _) rfl rfl rfl rfl (kOR k)
        refine D_cast eX0_barsSome_55 q1014 y_X18_ok H (fun H => ?_)
        refine D_gI eX0_barsSome_58 fq_X0_529_tI H (fun v5 H => ?_)
        refine V_lshr eX0_barsSome_61 ?_
        refine V_lconst (v := 1) (by decide) eX0_barsSome_62 ?_
        refine V_land eX0_barsSome_63 ?_
        refine V_lconst (v := 1) (by decide) eX0_barsSome_64 ?_
        refine V_lcmp eX0_barsSome_65 ?_
        refine V_ifne eX0_barsSome_66 (fun q => ?_) (fun q => ?_)
        · have H := zif_f q H
          exact V_fg2 (b_X0_barsSome_71 hk13 H) (zfg_n (zfg_k (zfg_k (zfg_k (zfg_k zfg_e)))))
        · have H := zif_t q H
          refine V_iconst (v := 1) (by decide) eX0_barsSome_69 ?_
          obtain ⟨q, H⟩ := zgd_ok H
          obtain ⟨rfl, rfl, rfl, rfl⟩ := zrt_ok H
          exact V_zreturn eX0_barsSome_70 rfl q ⟨rfl, rfl⟩
theorem b_X0_barsSome_13 {w : Wd} {F : Nat} {k2 : Int32 → M Int32} {a1 : Option Nat} {a2 : Int32} {a3 : Int32} (hk2 : ∀ (a3 : Int32) (h : Hp) (y : Int32) (h1 : Hp) (c s : Nat), k2 a3 h = some (y, h1, c, s) → V w mX0_barsSome cX0_barsSome 3 c s h 2 [none, some (va_rf a1), some (.int a2), some (.int a3), none] [] (Ro (oI y) h1)) : ∀ (n : Nat) (a4 : Int32) (h : Hp) (y : Int32) (h1 : Hp) (c s : Nat), d_X0_barsSome_13 w F k2 a1 a2 a3 n a4 h = some (y, h1, c, s) → V w mX0_barsSome cX0_barsSome 3 c s h 13 [none, some (va_rf a1), some (.int a2), some (.int a3), some (.int a4)] [] (Ro (oI y) h1) := by
  intro n
  induction n with
  | zero => intro a4 h y h1 c s H; exact zno_no H
  | succ n ih => intro a4 h y h1 c s H; exact bB_X0_barsSome_13 hk2 ih H
theorem bB_X0_barsSome_2 {w : Wd} {F : Nat} {k2 : Int32 → M Int32} {a1 : Option Nat} {a2 : Int32} (hk2 : ∀ (a3 : Int32) (h : Hp) (y : Int32) (h1 : Hp) (c s : Nat), k2 a3 h = some (y, h1, c, s) → V w mX0_barsSome cX0_barsSome 3 c s h 2 [none, some (va_rf a1), some (.int a2), some (.int a3), none] [] (Ro (oI y) h1)) {a3 : Int32} {h h1 : Hp} {y : Int32} {c s : Nat} (H : B_X0_barsSome_2 w F k2 a1 a2 a3 h = some (y, h1, c, s)) : V w mX0_barsSome cX0_barsSome 3 c s h 2 [none, some (va_rf a1), some (.int a2), some (.int a3), none] [] (Ro (oI y) h1) := by
  unfold B_X0_barsSome_2 at H
  refine V_iload3 eX0_barsSome_2 ?_
  refine V_aload1 eX0_barsSome_3 (zrf_rf _) ?_
  refine D_callI (pc' := 7) (st := [.int a3]) H (fun v h' c1 s1 e cb sb k => ?_) (fun v1 h c s H => ?_)
  · obtain ⟨a, hr, ha, hk, e9⟩ := zv1_ok e
    cases hr
    exact V_invokevirtual (k := 30) eX0_barsSome_4 lmJ2_size q156 q157 rfl rfl q158 ha hk (c_J2_size e9) (hRet_oI _ _) rfl rfl rfl rfl (kOI k)
  refine V_if_icmpge eX0_barsSome_7 (fun q => ?_) (fun q => ?_)
  · have H := zif_t q H
    refine V_iconst (v := 0) (by decide) eX0_barsSome_83 ?_
    obtain ⟨q, H⟩ := zgd_ok H
    obtain ⟨rfl, rfl, rfl, rfl⟩ := zrt_ok H
    exact V_zreturn eX0_barsSome_84 rfl q ⟨rfl, rfl⟩
  · have H := zif_f q H
    refine V_iconst (v := 0) (by decide) eX0_barsSome_10 ?_
    refine V_istore4 rfl eX0_barsSome_11 rfl ?_
    exact V_fg2 (b_X0_barsSome_13 hk2 _ _ _ _ _ _ _ H) (zfg_n (zfg_k (zfg_k (zfg_k (zfg_k zfg_e)))))
theorem b_X0_barsSome_2 {w : Wd} {F : Nat} {a1 : Option Nat} {a2 : Int32} : ∀ (n : Nat) (a3 : Int32) (h : Hp) (y : Int32) (h1 : Hp) (c s : Nat), d_X0_barsSome_2 w F a1 a2 n a3 h = some (y, h1, c, s) → V w mX0_barsSome cX0_barsSome 3 c s h 2 [none, some (va_rf a1), some (.int a2), some (.int a3), none] [] (Ro (oI y) h1) := by
  intro n
  induction n with
  | zero => intro a3 h y h1 c s H; exact zno_no H
  | succ n ih => intro a3 h y h1 c s H; exact bB_X0_barsSome_2 ih H
theorem c_X0_barsSome {w : Wd} {F : Nat} {x : Nat} {a1 : Option Nat} {a2 : Int32} {h h1 : Hp} {y : Int32} {c s : Nat} (H : o_X0_barsSome w F x a1 a2 h = some (y, h1, c, s)) : Con w mX0_barsSome cX0_barsSome 3 c s [.ref x, va_rf a1, .int a2] h (Ro (oI y) h1) := by
  unfold o_X0_barsSome at H
  refine Con.of (ls := [some (va_rf (some x)), some (va_rf a1), some (.int a2), none, none]) (by decide +kernel) (by simp only [zsl_r, zsl_i, zsl_l, zsl_n, zsl_a]; rfl) (by simp only [zar_r, zar_i, zar_l, zar_n, zar_a]; rfl) ?_
  refine V_iconst (v := 0) (by decide) eX0_barsSome_0 ?_
  refine V_istore3 rfl eX0_barsSome_1 rfl ?_
  exact V_fg2 (b_X0_barsSome_2 _ _ _ _ _ _ _ H) (zfg_n (zfg_k (zfg_k (zfg_k (zfg_n zfg_e)))))
def d_X0_sumOf_31 (w : Wd) (F : Nat) (k5 : Int64 → Int32 → M Int64) (a0 : Option Nat) (a1 : Int32) (a4 : Int32) (s0 : Int64) (s1 : Int64) : M Int64 :=
  k5 (s0 + s1) (a4 + (1 : Int32))
def B_X0_sumOf_5 (w : Wd) (F : Nat) (k5 : Int64 → Int32 → M Int64) (a0 : Option Nat) (a1 : Int32) (a2 : Int64) (a4 : Int32) : M Int64 :=
  zbd (zal a0) fun v1 =>
  zif (v1 ≤ a4) (zrt a2)
  (zif (((a1 >>> (a4 &&& 31)) &&& (1 : Int32)) = (1 : Int32)) (zbd (zaL a0 a4) fun v2 =>
  d_X0_sumOf_31 w F k5 a0 a1 a4 a2 v2)
  (d_X0_sumOf_31 w F k5 a0 a1 a4 a2 (0 : Int64)))
def d_X0_sumOf_5 (w : Wd) (F : Nat) (a0 : Option Nat) (a1 : Int32) : Nat → Int64 → Int32 → M Int64
  | 0, _, _ => zno
  | n + 1, a2, a4 => B_X0_sumOf_5 w F (d_X0_sumOf_5 w F a0 a1 n) a0 a1 a2 a4
def o_X0_sumOf (w : Wd) (F : Nat) (a0 : Option Nat) (a1 : Int32) : M Int64 :=
  d_X0_sumOf_5 w F a0 a1 F (0 : Int64) (0 : Int32)
theorem b_X0_sumOf_31 {w : Wd} {F : Nat} {k5 : Int64 → Int32 → M Int64} {a0 : Option Nat} {a1 : Int32} (hk5 : ∀ (a2 : Int64) (a4 : Int32) (h : Hp) (y : Int64) (h1 : Hp) (c s : Nat), k5 a2 a4 h = some (y, h1, c, s) → V w mX0_sumOf cX0_sumOf 0 c s h 5 [some (va_rf a0), some (.int a1), some (.long a2), none, some (.int a4)] [] (Ro (oL y) h1)) {a4 : Int32} {s0 : Int64} {s1 : Int64} {h h1 : Hp} {y : Int64} {c s : Nat} (H : d_X0_sumOf_31 w F k5 a0 a1 a4 s0 s1 h = some (y, h1, c, s)) : V w mX0_sumOf cX0_sumOf 0 c s h 31 [some (va_rf a0), some (.int a1), none, none, some (.int a4)] [.long s1, .long s0] (Ro (oL y) h1) := by
  unfold d_X0_sumOf_31 at H
  refine V_ladd eX0_sumOf_31 ?_
  refine V_lstore2 rfl eX0_sumOf_32 rfl ?_
  refine V_iinc4 rfl eX0_sumOf_33 rfl (v := 1) (by decide) ?_
  refine V_goto eX0_sumOf_36 ?_
  exact V_fg2 (hk5 _ _ _ _ _ _ _ H) (zfg_k (zfg_k (zfg_k (zfg_n (zfg_k zfg_e)))))
theorem bB_X0_sumOf_5 {w : Wd} {F : Nat} {k5 : Int64 → Int32 → M Int64} {a0 : Option Nat} {a1 : Int32} (hk5 : ∀ (a2 : Int64) (a4 : Int32) (h : Hp) (y : Int64) (h1 : Hp) (c s : Nat), k5 a2 a4 h = some (y, h1, c, s) → V w mX0_sumOf cX0_sumOf 0 c s h 5 [some (va_rf a0), some (.int a1), some (.long a2), none, some (.int a4)] [] (Ro (oL y) h1)) {a2 : Int64} {a4 : Int32} {h h1 : Hp} {y : Int64} {c s : Nat} (H : B_X0_sumOf_5 w F k5 a0 a1 a2 a4 h = some (y, h1, c, s)) : V w mX0_sumOf cX0_sumOf 0 c s h 5 [some (va_rf a0), some (.int a1), some (.long a2), none, some (.int a4)] [] (Ro (oL y) h1) := by
  unfold B_X0_sumOf_5 at H
  refine V_iload4 eX0_sumOf_5 ?_
  refine V_aload0 eX0_sumOf_7 (zrf_rf _) ?_
  refine D_arraylength eX0_sumOf_8 H (fun v1 H => ?_)
  refine V_if_icmpge eX0_sumOf_9 (fun q => ?_) (fun q => ?_)
  · have H := zif_t q H
    refine V_lload2 eX0_sumOf_39 ?_
    obtain ⟨rfl, rfl, rfl, rfl⟩ := zrt_ok H
    exact V_lreturn eX0_sumOf_40 rfl ⟨rfl, rfl⟩
  · have H := zif_f q H
    refine V_lload2 eX0_sumOf_12 ?_
    refine V_iload1 eX0_sumOf_13 ?_
    refine V_iload4 eX0_sumOf_14 ?_
    refine V_ishr eX0_sumOf_16 ?_
    refine V_iconst (v := 1) (by decide) eX0_sumOf_17 ?_
    refine V_iand eX0_sumOf_18 ?_
    refine V_iconst (v := 1) (by decide) eX0_sumOf_19 ?_
    refine V_if_icmpne eX0_sumOf_20 (fun q => ?_) (fun q => ?_)
    · have H := zif_f q H
      refine V_lconst (v := 0) (by decide) eX0_sumOf_30 ?_
      exact V_fg2 (b_X0_sumOf_31 hk5 H) (zfg_k (zfg_k (zfg_n (zfg_n (zfg_k zfg_e)))))
    · have H := zif_t q H
      refine V_aload0 eX0_sumOf_23 (zrf_rf _) ?_
      refine V_iload4 eX0_sumOf_24 ?_
      refine D_laload eX0_sumOf_26 H (fun v2 H => ?_)
      refine V_goto eX0_sumOf_27 ?_
      exact V_fg2 (b_X0_sumOf_31 hk5 H) (zfg_k (zfg_k (zfg_n (zfg_n (zfg_k zfg_e)))))
theorem b_X0_sumOf_5 {w : Wd} {F : Nat} {a0 : Option Nat} {a1 : Int32} : ∀ (n : Nat) (a2 : Int64) (a4 : Int32) (h : Hp) (y : Int64) (h1 : Hp) (c s : Nat), d_X0_sumOf_5 w F a0 a1 n a2 a4 h = some (y, h1, c, s) → V w mX0_sumOf cX0_sumOf 0 c s h 5 [some (va_rf a0), some (.int a1), some (.long a2), none, some (.int a4)] [] (Ro (oL y) h1) := by
  intro n
  induction n with
  | zero => intro a2 a4 h y h1 c s H; exact zno_no H
  | succ n ih => intro a2 a4 h y h1 c s H; exact bB_X0_sumOf_5 ih H
theorem c_X0_sumOf {w : Wd} {F : Nat} {a0 : Option Nat} {a1 : Int32} {h h1 : Hp} {y : Int64} {c s : Nat} (H : o_X0_sumOf w F a0 a1 h = some (y, h1, c, s)) : Con w mX0_sumOf cX0_sumOf 0 c s [va_rf a0, .int a1] h (Ro (oL y) h1) := by
  unfold o_X0_sumOf at H
  refine Con.of (ls := [some (va_rf a0), some (.int a1), none, none, none]) (by decide +kernel) (by simp only [zsl_r, zsl_i, zsl_l, zsl_n, zsl_a]; rfl) (by simp only [zar_r, zar_i, zar_l, zar_n, zar_a]; rfl) ?_
  refine V_lconst (v := 0) (by decide) eX0_sumOf_0 ?_
  refine V_lstore2 rfl eX0_sumOf_1 rfl ?_
  refine V_iconst (v := 0) (by decide) eX0_sumOf_2 ?_
  refine V_istore4 rfl eX0_sumOf_3 rfl ?_
  exact V_fg2 (b_X0_sumOf_5 _ _ _ _ _ _ _ _ H) (zfg_k (zfg_k (zfg_k (zfg_n (zfg_k zfg_e)))))
def d_X0_plan_41 (w : Wd) (F : Nat) : M Int32 :=
  zrt (-2 : Int32)
def d_X0_plan_383 (w : Wd) (F : Nat) (s0 : Int32) : M Int32 :=
  zrt s0
def d_X0_plan_375 (w : Wd) (F : Nat) (a8 : Int32) : M Int32 :=
  d_X0_plan_383 w F a8
def d_X0_plan_357 (w : Wd) (F : Nat) (k242 : Int32 → Int64 → Int32 → M Int32) (x : Nat) (a1 : Int32) (a2 : Int32) (a3 : Int32) (a4 : Int32) (a5 : Option Nat) (a6 : Option Nat) (a7 : Option Nat) (a8 : Int32) (a9 : Int64) (a11 : Int32) : M Int32 :=
  k242 a8 a9 (a11 + (1 : Int32))
def d_X0_plan_349 (w : Wd) (F : Nat) (k242 : Int32 → Int64 → Int32 → M Int32) (x : Nat) (a1 : Int32) (a2 : Int32) (a3 : Int32) (a4 : Int32) (a5 : Option Nat) (a6 : Option Nat) (a7 : Option Nat) (a11 : Int32) (a12 : Int64) : M Int32 :=
  d_X0_plan_357 w F k242 x a1 a2 a3 a4 a5 a6 a7 a11 a12 a11
def B_X0_plan_242 (w : Wd) (F : Nat) (k242 : Int32 → Int64 → Int32 → M Int32) (x : Nat) (a1 : Int32) (a2 : Int32) (a3 : Int32) (a4 : Int32) (a5 : Option Nat) (a6 : Option Nat) (a7 : Option Nat) (a8 : Int32) (a9 : Int64) (a11 : Int32) : M Int32 :=
  zbd (zv1 30 a5 (fun a => o_J2_size w F a)) fun v14 =>
  zif (((1 : Int32) <<< (v14 &&& 31)) ≤ a11) (zif (a8 = (-5 : Int32)) (d_X0_plan_375 w F a8)
  (zif (a4 = 0) (d_X0_plan_375 w F a8)
  (d_X0_plan_383 w F (a9).toInt32)))
  (zbd (o_X0_sumOf w F a7 a11) fun v15 =>
  zif (0 < (lg_cmp v15 (a3).toInt64)) (d_X0_plan_357 w F k242 x a1 a2 a3 a4 a5 a6 a7 a8 a9 a11)
  (zbd (o_X0_sumOf w F a6 a11) fun v16 =>
  zif (0 < (lg_cmp v16 (a2).toInt64)) (d_X0_plan_357 w F k242 x a1 a2 a3 a4 a5 a6 a7 a8 a9 a11)
  (zbd (zv1 0 (some x) (fun a => o_X0_barsSome w F a a5 a11)) fun v17 =>
  zif (v17 = 0) (zbd (zv1 0 (some x) (fun a => o_X0_join w F a a1 a5 a11)) fun v18 =>
  zif (v18 = 0) (d_X0_plan_357 w F k242 x a1 a2 a3 a4 a5 a6 a7 a8 a9 a11)
  (zif (a8 = (-5 : Int32)) (d_X0_plan_349 w F k242 x a1 a2 a3 a4 a5 a6 a7 a11 v15)
  (zif (0 < (lg_cmp v15 a9)) (d_X0_plan_357 w F k242 x a1 a2 a3 a4 a5 a6 a7 a8 a9 a11)
  (zif ((lg_cmp v15 a9) = 0) (zbd (o_J13_bitCount w F a11) fun v19 =>
  zbd (o_J13_bitCount w F a8) fun v20 =>
  zif (v19 < v20) (d_X0_plan_349 w F k242 x a1 a2 a3 a4 a5 a6 a7 a11 v15)
  (d_X0_plan_357 w F k242 x a1 a2 a3 a4 a5 a6 a7 a8 a9 a11))
  (d_X0_plan_349 w F k242 x a1 a2 a3 a4 a5 a6 a7 a11 v15)))))
  (d_X0_plan_357 w F k242 x a1 a2 a3 a4 a5 a6 a7 a8 a9 a11))))
def d_X0_plan_242 (w : Wd) (F : Nat) (x : Nat) (a1 : Int32) (a2 : Int32) (a3 : Int32) (a4 : Int32) (a5 : Option Nat) (a6 : Option Nat) (a7 : Option Nat) : Nat → Int32 → Int64 → Int32 → M Int32
  | 0, _, _, _ => zno
  | n + 1, a8, a9, a11 => B_X0_plan_242 w F (d_X0_plan_242 w F x a1 a2 a3 a4 a5 a6 a7 n) x a1 a2 a3 a4 a5 a6 a7 a8 a9 a11
def B_X0_plan_160 (w : Wd) (F : Nat) (k160 : Int32 → M Int32) (x : Nat) (a1 : Int32) (a2 : Int32) (a3 : Int32) (a4 : Int32) (a5 : Option Nat) (a6 : Option Nat) (a7 : Option Nat) (a8 : Int32) : M Int32 :=
  zbd (zv1 30 a5 (fun a => o_J2_size w F a)) fun v13 =>
  zif (v13 ≤ a8) (d_X0_plan_242 w F x a1 a2 a3 a4 a5 a6 a7 F (-5 : Int32) (0 : Int64) (0 : Int32))
  (zbd (zv1 30 a5 (fun a => o_J2_get w F a a8)) fun v14 =>
  zbd (zcc y_X18 v14) fun _ =>
  zbd (zgR f_X18_plan v14) fun v15 =>
  zbd (zv1 0 (some x) (fun a => o_X0_yardsOf w F a v15)) fun v16 =>
  zbd (zsL a6 a8 (v16).toInt64) fun _ =>
  zbd (zaL a6 a8) fun v17 =>
  zbd (zv1 30 a5 (fun a => o_J2_get w F a a8)) fun v18 =>
  zbd (zcc y_X18 v18) fun _ =>
  zbd (zgR f_X18_plan v18) fun v19 =>
  zbd (zv1 0 (some x) (fun a => o_X0_claimsOn w F a v19)) fun v20 =>
  zbd (zsL a7 a8 (((2 : Int64) * v17) + (v20).toInt64)) fun _ =>
  k160 (a8 + (1 : Int32)))
def d_X0_plan_160 (w : Wd) (F : Nat) (x : Nat) (a1 : Int32) (a2 : Int32) (a3 : Int32) (a4 : Int32) (a5 : Option Nat) (a6 : Option Nat) (a7 : Option Nat) : Nat → Int32 → M Int32
  | 0, _ => zno
  | n + 1, a8 => B_X0_plan_160 w F (d_X0_plan_160 w F x a1 a2 a3 a4 a5 a6 a7 n) x a1 a2 a3 a4 a5 a6 a7 a8
def d_X0_plan_139 (w : Wd) (F : Nat) (x : Nat) (a1 : Int32) (a2 : Int32) (a3 : Int32) (a4 : Int32) (a5 : Option Nat) : M Int32 :=
  zbd (zv1 30 a5 (fun a => o_J2_size w F a)) fun v9 =>
  zbd (znA 150 36 v9) fun n10 =>
  zbd (zv1 30 a5 (fun a => o_J2_size w F a)) fun v11 =>
  zbd (znA 150 37 v11) fun n12 =>
  d_X0_plan_160 w F x a1 a2 a3 a4 a5 n10 n12 F (0 : Int32)
def d_X0_plan_133 (w : Wd) (F : Nat) (k56 : Int32 → M Int32) (x : Nat) (a1 : Int32) (a2 : Int32) (a3 : Int32) (a4 : Int32) (a5 : Option Nat) (a7 : Int32) : M Int32 :=
  k56 (a7 + (1 : Int32))
def B_X0_plan_56 (w : Wd) (F : Nat) (k56 : Int32 → M Int32) (x : Nat) (a1 : Int32) (a2 : Int32) (a3 : Int32) (a4 : Int32) (a5 : Option Nat) (a7 : Int32) : M Int32 :=
  zbd (zgR f_X0_papers (some x)) fun v7 =>
  zbd (zv1 30 v7 (fun a => o_J2_size w F a)) fun v8 =>
  zif (v8 ≤ a7) (d_X0_plan_139 w F x a1 a2 a3 a4 a5)
  (zbd (zv1 30 a5 (fun a => o_J2_size w F a)) fun v9 =>
  zif ((8 : Int32) ≤ v9) (d_X0_plan_139 w F x a1 a2 a3 a4 a5)
  (zbd (zgR f_X0_papers (some x)) fun v10 =>
  zbd (zv1 30 v10 (fun a => o_J2_get w F a a7)) fun v11 =>
  zbd (zio y_X18 n_X18 v11) fun v12 =>
  zif (v12 = 0) (d_X0_plan_133 w F k56 x a1 a2 a3 a4 a5 a7)
  (zbd (zcc y_X18 v11) fun _ =>
  zbd (zgI f_X18_granted v11) fun v13 =>
  zif (v13 = 0) (zbd (zgI f_X0_today (some x)) fun v14 =>
  zbd (zv1 0 (some x) (fun a => o_X0_canLet w F a v11 v14)) fun v15 =>
  zif (v15 = 0) (d_X0_plan_133 w F k56 x a1 a2 a3 a4 a5 a7)
  (zbd (zv1 30 a5 (fun a => o_J2_add w F a v11)) fun v16 =>
  d_X0_plan_133 w F k56 x a1 a2 a3 a4 a5 a7))
  (d_X0_plan_133 w F k56 x a1 a2 a3 a4 a5 a7))))
def d_X0_plan_56 (w : Wd) (F : Nat) (x : Nat) (a1 : Int32) (a2 : Int32) (a3 : Int32) (a4 : Int32) (a5 : Option Nat) : Nat → Int32 → M Int32
  | 0, _ => zno
  | n + 1, a7 => B_X0_plan_56 w F (d_X0_plan_56 w F x a1 a2 a3 a4 a5 n) x a1 a2 a3 a4 a5 a7
def o_X0_plan (w : Wd) (F : Nat) (x : Nat) (a1 : Int32) (a2 : Int32) (a3 : Int32) (a4 : Int32) : M Int32 :=
  zbd (o_X0_in w F a4 (0 : Int32) (1 : Int32)) fun v1 =>
  zif (v1 = 0) (zrt (-1 : Int32))
  (zbd (zv1 0 (some x) (fun a => o_X0_areTowns w F a a1)) fun v2 =>
  zif (v2 = 0) (d_X0_plan_41 w F)
  (zbd (o_X0_in w F a2 (0 : Int32) (99999 : Int32)) fun v3 =>
  zif (v3 = 0) (d_X0_plan_41 w F)
  (zbd (o_X0_in w F a3 (0 : Int32) (999999 : Int32)) fun v4 =>
  zif (v4 = 0) (d_X0_plan_41 w F)
  (zbd (znw 30 0 3) fun n5 =>
  zbd (znn n5 (fun a => o_J2_init w F a)) fun _ =>
  d_X0_plan_56 w F x a1 a2 a3 a4 n5 F (0 : Int32)))))
theorem b_X0_plan_41 {w : Wd} {F : Nat} {h h1 : Hp} {y : Int32} {c s : Nat} (H : d_X0_plan_41 w F h = some (y, h1, c, s)) : V w mX0_plan cX0_plan 802 c s h 41 [none, none, none, none, none, none, none, none, none, none, none, none, none, none] [] (Ro (oI y) h1) := by
  unfold d_X0_plan_41 at H
  refine V_bipush (v := -2) (by decide) eX0_plan_41 ?_
  obtain ⟨rfl, rfl, rfl, rfl⟩ := zrt_ok H
  exact V_ireturn eX0_plan_43 rfl ⟨rfl, rfl⟩
theorem b_X0_plan_383 {w : Wd} {F : Nat} {s0 : Int32} {h h1 : Hp} {y : Int32} {c s : Nat} (H : d_X0_plan_383 w F s0 h = some (y, h1, c, s)) : V w mX0_plan cX0_plan 802 c s h 383 [none, none, none, none, none, none, none, none, none, none, none, none, none, none] [.int s0] (Ro (oI y) h1) := by
  unfold d_X0_plan_383 at H
  obtain ⟨rfl, rfl, rfl, rfl⟩ := zrt_ok H
  exact V_ireturn eX0_plan_383 rfl ⟨rfl, rfl⟩
theorem b_X0_plan_375 {w : Wd} {F : Nat} {a8 : Int32} {h h1 : Hp} {y : Int32} {c s : Nat} (H : d_X0_plan_375 w F a8 h = some (y, h1, c, s)) : V w mX0_plan cX0_plan 802 c s h 375 [none, none, none, none, none, none, none, none, some (.int a8), none, none, none, none, none] [] (Ro (oI y) h1) := by
  unfold d_X0_plan_375 at H
  refine V_iload8 eX0_plan_375 ?_
  refine V_goto eX0_plan_377 ?_
  exact V_fg2 (b_X0_plan_383 H) (zfg_n (zfg_n (zfg_n (zfg_n (zfg_n (zfg_n (zfg_n (zfg_n (zfg_n (zfg_n (zfg_n (zfg_n (zfg_n (zfg_n zfg_e))))))))))))))
theorem b_X0_plan_357 {w : Wd} {F : Nat} {k242 : Int32 → Int64 → Int32 → M Int32} {x : Nat} {a1 : Int32} {a2 : Int32} {a3 : Int32} {a4 : Int32} {a5 : Option Nat} {a6 : Option Nat} {a7 : Option Nat} (hk242 : ∀ (a8 : Int32) (a9 : Int64) (a11 : Int32) (h : Hp) (y : Int32) (h1 : Hp) (c s : Nat), k242 a8 a9 a11 h = some (y, h1, c, s) → V w mX0_plan cX0_plan 802 c s h 242 [some (va_rf (some x)), some (.int a1), some (.int a2), some (.int a3), some (.int a4), some (va_rf a5), some (va_rf a6), some (va_rf a7), some (.int a8), some (.long a9), none, some (.int a11), none, none] [] (Ro (oI y) h1)) {a8 : Int32} {a9 : Int64} {a11 : Int32} {h h1 : Hp} {y : Int32} {c s : Nat} (H : d_X0_plan_357 w F k242 x a1 a2 a3 a4 a5 a6 a7 a8 a9 a11 h = some (y, h1, c, s)) : V w mX0_plan cX0_plan 802 c s h 357 [some (va_rf (some x)), some (.int a1), some (.int a2), some (.int a3), some (.int a4), some (va_rf a5), some (va_rf a6), some (va_rf a7), some (.int a8), some (.long a9), none, some (.int a11), none, none] [] (Ro (oI y) h1) := by
  unfold d_X0_plan_357 at H
  refine V_iinc11 rfl eX0_plan_357 rfl (v := 1) (by decide) ?_
  refine V_goto eX0_plan_360 ?_
  exact V_fg2 (hk242 _ _ _ _ _ _ _ _ H) (zfg_k (zfg_k (zfg_k (zfg_k (zfg_k (zfg_k (zfg_k (zfg_k (zfg_k (zfg_k (zfg_n (zfg_k (zfg_n (zfg_n zfg_e))))))))))))))
theorem b_X0_plan_349 {w : Wd} {F : Nat} {k242 : Int32 → Int64 → Int32 → M Int32} {x : Nat} {a1 : Int32} {a2 : Int32} {a3 : Int32} {a4 : Int32} {a5 : Option Nat} {a6 : Option Nat} {a7 : Option Nat} (hk242 : ∀ (a8 : Int32) (a9 : Int64) (a11 : Int32) (h : Hp) (y : Int32) (h1 : Hp) (c s : Nat), k242 a8 a9 a11 h = some (y, h1, c, s) → V w mX0_plan cX0_plan 802 c s h 242 [some (va_rf (some x)), some (.int a1), some (.int a2), some (.int a3), some (.int a4), some (va_rf a5), some (va_rf a6), some (va_rf a7), some (.int a8), some (.long a9), none, some (.int a11), none, none] [] (Ro (oI y) h1)) {a11 : Int32} {a12 : Int64} {h h1 : Hp} {y : Int32} {c s : Nat} (H : d_X0_plan_349 w F k242 x a1 a2 a3 a4 a5 a6 a7 a11 a12 h = some (y, h1, c, s)) : V w mX0_plan cX0_plan 802 c s h 349 [some (va_rf (some x)), some (.int a1), some (.int a2), some (.int a3), some (.int a4), some (va_rf a5), some (va_rf a6), some (va_rf a7), none, none, none, some (.int a11), some (.long a12), none] [] (Ro (oI y) h1) := by
  unfold d_X0_plan_349 at H
  refine V_iload11 eX0_plan_349 ?_
  refine V_istore8 (znl_rf _) eX0_plan_351 rfl ?_
  refine V_lload12 eX0_plan_353 ?_
  refine V_lstore9 rfl eX0_plan_355 rfl ?_
  exact V_fg2 (b_X0_plan_357 hk242 H) (zfg_k (zfg_k (zfg_k (zfg_k (zfg_k (zfg_k (zfg_k (zfg_k (zfg_k (zfg_k (zfg_n (zfg_k (zfg_n (zfg_n zfg_e))))))))))))))
theorem bB_X0_plan_242 {w : Wd} {F : Nat} {k242 : Int32 → Int64 → Int32 → M Int32} {x : Nat} {a1 : Int32} {a2 : Int32} {a3 : Int32} {a4 : Int32} {a5 : Option Nat} {a6 : Option Nat} {a7 : Option Nat} (hk242 : ∀ (a8 : Int32) (a9 : Int64) (a11 : Int32) (h : Hp) (y : Int32) (h1 : Hp) (c s : Nat), k242 a8 a9 a11 h = some (y, h1, c, s) → V w mX0_plan cX0_plan 802 c s h 242 [some (va_rf (some x)), some (.int a1), some (.int a2), some (.int a3), some (.int a4), some (va_rf a5), some (va_rf a6), some (va_rf a7), some (.int a8), some (.long a9), none, some (.int a11), none, none] [] (Ro (oI y) h1)) {a8 : Int32} {a9 : Int64} {a11 : Int32} {h h1 : Hp} {y : Int32} {c s : Nat} (H : B_X0_plan_242 w F k242 x a1 a2 a3 a4 a5 a6 a7 a8 a9 a11 h = some (y, h1, c, s)) : V w mX0_plan cX0_plan 802 c s h 242 [some (va_rf (some x)), some (.int a1), some (.int a2), some (.int a3), some (.int a4), some (va_rf a5), some (va_rf a6), some (va_rf a7), some (.int a8), some (.long a9), none, some (.int a11), none, none] [] (Ro (oI y) h1) := by
  unfold B_X0_plan_242 at H
  refine V_iload11 eX0_plan_242 ?_
  refine V_iconst (v := 1) (by decide) eX0_plan_244 ?_
  refine V_aload5 eX0_plan_245 (zrf_rf _) ?_
  refine D_callI (pc' := 250) (st := [.int (1 : Int32), .int a11]) H (fun v h' c1 s1 e cb sb k => ?_) (fun v14 h c s H => ?_)
  · obtain ⟨a, hr, ha, hk, e9⟩ := zv1_ok e
    cases hr
    exact V_invokevirtual (k := 30) eX0_plan_247 lmJ2_size q156 q157 rfl rfl q158 ha hk (c_J2_size e9) (hRet_oI _ _) rfl rfl rfl rfl (kOI k)
  refine V_ishl eX0_plan_250 ?_
  refine V_if_icmpge eX0_plan_251 (fun q => ?_) (fun q => ?_)
  · have H := zif_t q H
    refine V_iload8 eX0_plan_363 ?_
    refine V_bipush (v := -5) (by decide) eX0_plan_365 ?_
    refine V_if_icmpeq eX0_plan_367 (fun q => ?_) (fun q => ?_)
    · have H := zif_t q H
      exact V_fg2 (b_X0_plan_375 H) (zfg_n (zfg_n (zfg_n (zfg_n (zfg_n (zfg_n (zfg_n (zfg_n (zfg_k (zfg_n (zfg_n (zfg_n (zfg_n (zfg_n zfg_e))))))))))))))
    · have H := zif_f q H
      refine V_iload4 eX0_plan_370 ?_
      refine V_ifne eX0_plan_372 (fun q => ?_) (fun q => ?_)
      · have H := zif_f q H
        refine V_lload9 eX0_plan_380 ?_
        refine V_l2i eX0_plan_382 ?_
        exact V_fg2 (b_X0_plan_383 H) (zfg_n (zfg_n (zfg_n (zfg_n (zfg_n (zfg_n (zfg_n (zfg_n (zfg_n (zfg_n (zfg_n (zfg_n (zfg_n (zfg_n zfg_e))))))))))))))
      · have H := zif_t q H
        exact V_fg2 (b_X0_plan_375 H) (zfg_n (zfg_n (zfg_n (zfg_n (zfg_n (zfg_n (zfg_n (zfg_n (zfg_k (zfg_n (zfg_n (zfg_n (zfg_n (zfg_n zfg_e))))))))))))))
  · have H := zif_f q H
    refine V_aload7 eX0_plan_254 (zrf_rf _) ?_
    refine V_iload11 eX0_plan_256 ?_
    refine D_callL (pc' := 261) (st := []) H (fun v h' c1 s1 e cb sb k => ?_) (fun v15 h c s H => ?_)
    · exact V_invokestatic eX0_plan_258 lmX0_sumOf q1604 q1605 (c_X0_sumOf e) (hRet_oL _ _) rfl rfl rfl rfl (kOL k)
    refine V_lstore12 rfl eX0_plan_261 rfl ?_
    refine V_lload12 eX0_plan_263 ?_
    refine V_iload3 eX0_plan_265 ?_
    refine V_i2l eX0_plan_266 ?_
    refine V_lcmp eX0_plan_267 ?_
    refine V_ifgt eX0_plan_268 (fun q => ?_) (fun q => ?_)
    · have H := zif_t q H
      exact V_fg2 (b_X0_plan_357 hk242 H) (zfg_k (zfg_k (zfg_k (zfg_k (zfg_k (zfg_k (zfg_k (zfg_k (zfg_k (zfg_k (zfg_n (zfg_k (zfg_n (zfg_n zfg_e))))))))))))))
    · have H := zif_f q H
      refine V_aload6 eX0_plan_271 (zrf_rf _) ?_
      refine V_iload11 eX0_plan_273 ?_
      refine D_callL (pc' := 278) (st := []) H (fun v h' c1 s1 e cb sb k => ?_) (fun v16 h c s H => ?_)
      · exact V_invokestatic eX0_plan_275 lmX0_sumOf q1604 q1605 (c_X0_sumOf e) (hRet_oL _ _) rfl rfl rfl rfl (kOL k)
      refine V_iload2 eX0_plan_278 ?_
      refine V_i2l eX0_plan_279 ?_
      refine V_lcmp eX0_plan_280 ?_
      refine V_ifgt eX0_plan_281 (fun q => ?_) (fun q => ?_)
      · have H := zif_t q H
        exact V_fg2 (b_X0_plan_357 hk242 H) (zfg_k (zfg_k (zfg_k (zfg_k (zfg_k (zfg_k (zfg_k (zfg_k (zfg_k (zfg_k (zfg_n (zfg_k (zfg_n (zfg_n zfg_e))))))))))))))
      · have H := zif_f q H
        refine V_aload0 eX0_plan_284 (zrf_rf _) ?_
        refine V_aload5 eX0_plan_285 (zrf_rf _) ?_
        refine V_iload11 eX0_plan_287 ?_
        refine D_callI (pc' := 292) (st := []) H (fun v h' c1 s1 e cb sb k => ?_) (fun v17 h c s H => ?_)
        · obtain ⟨a, hr, ha, hk, e9⟩ := zv1_ok e
          cases hr
          exact V_invokevirtual (k := 0) eX0_plan_289 lmX0_barsSome q1607 q1609 rfl rfl qs49 ha hk (c_X0_barsSome e9) (hRet_oI _ _) rfl rfl rfl rfl (kOI k)
        refine V_ifne eX0_plan_292 (fun q => ?_) (fun q => ?_)
        · have H := zif_f q H
          exact V_fg2 (b_X0_plan_357 hk242 H) (zfg_k (zfg_k (zfg_k (zfg_k (zfg_k (zfg_k (zfg_k (zfg_k (zfg_k (zfg_k (zfg_n (zfg_k (zfg_n (zfg_n zfg_e))))))))))))))
        · have H := zif_t q H
          refine V_aload0 eX0_plan_295 (zrf_rf _) ?_
          refine V_iload1 eX0_plan_296 ?_
          refine V_aload5 eX0_plan_297 (zrf_rf _) ?_
          refine V_iload11 eX0_plan_299 ?_
          refine D_callI (pc' := 304) (st := []) H (fun v h' c1 s1 e cb sb k => ?_) (fun v18 h c s H => ?_)
          · obtain ⟨a, hr, ha, hk, e9⟩ := zv1_ok e
            cases hr
            exact V_invokevirtual (k := 0) eX0_plan_301 lmX0_join q1595 q1597 rfl rfl qs48 ha hk (c_X0_join e9) (hRet_oI _ _) rfl rfl rfl rfl (kOI k)
          refine V_ifne eX0_plan_304 (fun q => ?_) (fun q => ?_)
          · have H := zif_f q H
            refine V_iload8 eX0_plan_310 ?_
            refine V_bipush (v := -5) (by decide) eX0_plan_312 ?_
            refine V_if_icmpeq eX0_plan_314 (fun q => ?_) (fun q => ?_)
            · have H := zif_t q H
              exact V_fg2 (b_X0_plan_349 hk242 H) (zfg_k (zfg_k (zfg_k (zfg_k (zfg_k (zfg_k (zfg_k (zfg_k (zfg_n (zfg_n (zfg_n (zfg_k (zfg_k (zfg_n zfg_e))))))))))))))
            · have H := zif_f q H
              refine V_lload12 eX0_plan_317 ?_
              refine V_lload9 eX0_plan_319 ?_
              refine V_lcmp eX0_plan_321 ?_
              refine V_ifgt eX0_plan_322 (fun q => ?_) (fun q => ?_)
              · have H := zif_t q H
                exact V_fg2 (b_X0_plan_357 hk242 H) (zfg_k (zfg_k (zfg_k (zfg_k (zfg_k (zfg_k (zfg_k (zfg_k (zfg_k (zfg_k (zfg_n (zfg_k (zfg_n (zfg_n zfg_e))))))))))))))
              · have H := zif_f q H
                refine V_lload12 eX0_plan_325 ?_
                refine V_lload9 eX0_plan_327 ?_
                refine V_lcmp eX0_plan_329 ?_
                refine V_ifne eX0_plan_330 (fun q => ?_) (fun q => ?_)
                · have H := zif_f q H
                  exact V_fg2 (b_X0_plan_349 hk242 H) (zfg_k (zfg_k (zfg_k (zfg_k (zfg_k (zfg_k (zfg_k (zfg_k (zfg_n (zfg_n (zfg_n (zfg_k (zfg_k (zfg_n zfg_e))))))))))))))
                · have H := zif_t q H
                  refine V_iload11 eX0_plan_333 ?_
                  refine D_callI (pc' := 338) (st := []) H (fun v h' c1 s1 e cb sb k => ?_) (fun v19 h c s H => ?_)
                  · exact V_invokestatic eX0_plan_335 lmJ13_bitCount q1589 q1590 (c_J13_bitCount e) (hRet_oI _ _) rfl rfl rfl rfl (kOI k)
                  refine V_iload8 eX0_plan_338 ?_
                  refine D_callI (pc' := 343) (st := [.int v19]) H (fun v h' c1 s1 e cb sb k => ?_) (fun v20 h c s H => ?_)
                  · exact V_invokestatic eX0_plan_340 lmJ13_bitCount q1589 q1590 (c_J13_bitCount e) (hRet_oI _ _) rfl rfl rfl rfl (kOI k)
                  refine V_if_icmplt eX0_plan_343 (fun q => ?_) (fun q => ?_)
                  · have H := zif_t q H
                    exact V_fg2 (b_X0_plan_349 hk242 H) (zfg_k (zfg_k (zfg_k (zfg_k (zfg_k (zfg_k (zfg_k (zfg_k (zfg_n (zfg_n (zfg_n (zfg_k (zfg_k (zfg_n zfg_e))))))))))))))
                  · have H := zif_f q H
                    refine V_goto eX0_plan_346 ?_
                    exact V_fg2 (b_X0_plan_357 hk242 H) (zfg_k (zfg_k (zfg_k (zfg_k (zfg_k (zfg_k (zfg_k (zfg_k (zfg_k (zfg_k (zfg_n (zfg_k (zfg_n (zfg_n zfg_e))))))))))))))
          · have H := zif_t q H
            refine V_goto eX0_plan_307 ?_
            exact V_fg2 (b_X0_plan_357 hk242 H) (zfg_k (zfg_k (zfg_k (zfg_k (zfg_k (zfg_k (zfg_k (zfg_k (zfg_k (zfg_k (zfg_n (zfg_k (zfg_n (zfg_n zfg_e))))))))))))))
theorem b_X0_plan_242 {w : Wd} {F : Nat} {x : Nat} {a1 : Int32} {a2 : Int32} {a3 : Int32} {a4 : Int32} {a5 : Option Nat} {a6 : Option Nat} {a7 : Option Nat} : ∀ (n : Nat) (a8 : Int32) (a9 : Int64) (a11 : Int32) (h : Hp) (y : Int32) (h1 : Hp) (c s : Nat), d_X0_plan_242 w F x a1 a2 a3 a4 a5 a6 a7 n a8 a9 a11 h = some (y, h1, c, s) → V w mX0_plan cX0_plan 802 c s h 242 [some (va_rf (some x)), some (.int a1), some (.int a2), some (.int a3), some (.int a4), some (va_rf a5), some (va_rf a6), some (va_rf a7), some (.int a8), some (.long a9), none, some (.int a11), none, none] [] (Ro (oI y) h1) := by
  intro n
  induction n with
  | zero => intro a8 a9 a11 h y h1 c s H; exact zno_no H
  | succ n ih => intro a8 a9 a11 h y h1 c s H; exact bB_X0_plan_242 ih H
theorem bB_X0_plan_160 {w : Wd} {F : Nat} {k160 : Int32 → M Int32} {x : Nat} {a1 : Int32} {a2 : Int32} {a3 : Int32} {a4 : Int32} {a5 : Option Nat} {a6 : Option Nat} {a7 : Option Nat} (hk160 : ∀ (a8 : Int32) (h : Hp) (y : Int32) (h1 : Hp) (c s : Nat), k160 a8 h = some (y, h1, c, s) → V w mX0_plan cX0_plan 802 c s h 160 [some (va_rf (some x)), some (.int a1), some (.int a2), some (.int a3), some (.int a4), some (va_rf a5), some (va_rf a6), some (va_rf a7), some (.int a8), none, none, none, none, none] [] (Ro (oI y) h1)) {a8 : Int32} {h h1 : Hp} {y : Int32} {c s : Nat} (H : B_X0_plan_160 w F k160 x a1 a2 a3 a4 a5 a6 a7 a8 h = some (y, h1, c, s)) : V w mX0_plan cX0_plan 802 c s h 160 [some (va_rf (some x)), some (.int a1), some (.int a2), some (.int a3), some (.int a4), some (va_rf a5), some (va_rf a6), some (va_rf a7), some (.int a8), none, none, none, none, none] [] (Ro (oI y) h1) := by
  unfold B_X0_plan_160 at H
  refine V_iload8 eX0_plan_160 ?_
  refine V_aload5 eX0_plan_162 (zrf_rf _) ?_
  refine D_callI (pc' := 167) (st := [.int a8]) H (fun v h' c1 s1 e cb sb k => ?_) (fun v13 h c s H => ?_)
  · obtain ⟨a, hr, ha, hk, e9⟩ := zv1_ok e
    cases hr
    exact V_invokevirtual (k := 30) eX0_plan_164 lmJ2_size q156 q157 rfl rfl q158 ha hk (c_J2_size e9) (hRet_oI _ _) rfl rfl rfl rfl (kOI k)
  refine V_if_icmpge eX0_plan_167 (fun q => ?_) (fun q => ?_)
  · have H := zif_t q H
    refine V_bipush (v := -5) (by decide) eX0_plan_232 ?_
    refine V_istore8 (znl_rf _) eX0_plan_234 rfl ?_
    refine V_lconst (v := 0) (by decide) eX0_plan_236 ?_
    refine V_lstore9 rfl eX0_plan_237 rfl ?_
    refine V_iconst (v := 0) (by decide) eX0_plan_239 ?_
    refine V_istore11 rfl eX0_plan_240 rfl ?_
    exact V_fg2 (b_X0_plan_242 _ _ _ _ _ _ _ _ _ H) (zfg_k (zfg_k (zfg_k (zfg_k (zfg_k (zfg_k (zfg_k (zfg_k (zfg_k (zfg_k (zfg_n (zfg_k (zfg_n (zfg_n zfg_e))))))))))))))
  · have H := zif_f q H
    refine V_aload6 eX0_plan_170 (zrf_rf _) ?_
    refine V_iload8 eX0_plan_172 ?_
    refine V_aload0 eX0_plan_174 (zrf_rf _) ?_
    refine V_aload5 eX0_plan_175 (zrf_rf _) ?_
    refine V_iload8 eX0_plan_177 ?_
    refine D_callR (pc' := 182) (st := [va_rf (some x), .int a8, va_rf a6]) H (fun v h' c1 s1 e cb sb k => ?_) (fun v14 h c s H => ?_)
    · obtain ⟨a, hr, ha, hk, e9⟩ := zv1_ok e
      cases hr
      exact V_invokevirtual (k := 30) eX0_plan_179 lmJ2_get q160 q161 rfl rfl q162 ha hk (c_J2_get e9) (hRet_oR _ _) rfl rfl rfl (by simp only [List.map_cons, List.map_nil, zcr]; rfl) (kOR k)
    refine D_cast eX0_plan_182 q1014 y_X18_ok H (fun H => ?_)
    refine D_gR eX0_plan_185 fq_X0_303_tR H (fun v15 H => ?_)
    refine D_callI (pc' := 191) (st := [.int a8, va_rf a6]) H (fun v h' c1 s1 e cb sb k => ?_) (fun v16 h c s H => ?_)
    · obtain ⟨a, hr, ha, hk, e9⟩ := zv1_ok e
      cases hr
      exact V_invokevirtual (k := 0) eX0_plan_188 lmX0_yardsOf q945 q947 rfl rfl qs26 ha hk (c_X0_yardsOf e9) (hRet_oI _ _) rfl rfl rfl (by simp only [List.map_cons, List.map_nil, zcr]; rfl) (kOI k)
    refine V_i2l eX0_plan_191 ?_
    refine D_lastore eX0_plan_192 H (fun h H => ?_)
    refine V_aload7 eX0_plan_193 (zrf_rf _) ?_
    refine V_iload8 eX0_plan_195 ?_
    refine V_ldc2_w (v := 2) eX0_plan_197 q1568 ?_
    refine V_aload6 eX0_plan_200 (zrf_rf _) ?_
    refine V_iload8 eX0_plan_202 ?_
    refine D_laload eX0_plan_204 H (fun v17 H => ?_)
    refine V_lmul eX0_plan_205 ?_
    refine V_aload0 eX0_plan_206 (zrf_rf _) ?_
    refine V_aload5 eX0_plan_207 (zrf_rf _) ?_
    refine V_iload8 eX0_plan_209 ?_
    refine D_callR (pc' := 214) (st := [va_rf (some x), .long ((2 : Int64) * v17), .int a8, va_rf a7]) H (fun v h' c1 s1 e cb sb k => ?_) (fun v18 h c s H => ?_)
    · obtain ⟨a, hr, ha, hk, e9⟩ := zv1_ok e
      cases hr
      exact V_invokevirtual (k := 30) eX0_plan_211 lmJ2_get q160 q161 rfl rfl q162 ha hk (c_J2_get e9) (hRet_oR _ _) rfl rfl rfl (by simp only [List.map_cons, List.map_nil, zcr]; rfl) (kOR k)
    refine D_cast eX0_plan_214 q1014 y_X18_ok H (fun H => ?_)
    refine D_gR eX0_plan_217 fq_X0_303_tR H (fun v19 H => ?_)
    refine D_callI (pc' := 223) (st := [.long ((2 : Int64) * v17), .int a8, va_rf a7]) H (fun v h' c1 s1 e cb sb k => ?_) (fun v20 h c s H => ?_)
    · obtain ⟨a, hr, ha, hk, e9⟩ := zv1_ok e
      cases hr
      exact V_invokevirtual (k := 0) eX0_plan_220 lmX0_claimsOn q1072 q1074 rfl rfl qs36 ha hk (c_X0_claimsOn e9) (hRet_oI _ _) rfl rfl rfl (by simp only [List.map_cons, List.map_nil, zcr]; rfl) (kOI k)
    refine V_i2l eX0_plan_223 ?_
    refine V_ladd eX0_plan_224 ?_
    refine D_lastore eX0_plan_225 H (fun h H => ?_)
    refine V_iinc8 (znl_rf _) eX0_plan_226 rfl (v := 1) (by decide) ?_
    refine V_goto eX0_plan_229 ?_
    exact V_fg2 (hk160 _ _ _ _ _ _ H) (zfg_k (zfg_k (zfg_k (zfg_k (zfg_k (zfg_k (zfg_k (zfg_k (zfg_k (zfg_n (zfg_n (zfg_n (zfg_n (zfg_n zfg_e))))))))))))))
theorem b_X0_plan_160 {w : Wd} {F : Nat} {x : Nat} {a1 : Int32} {a2 : Int32} {a3 : Int32} {a4 : Int32} {a5 : Option Nat} {a6 : Option Nat} {a7 : Option Nat} : ∀ (n : Nat) (a8 : Int32) (h : Hp) (y : Int32) (h1 : Hp) (c s : Nat), d_X0_plan_160 w F x a1 a2 a3 a4 a5 a6 a7 n a8 h = some (y, h1, c, s) → V w mX0_plan cX0_plan 802 c s h 160 [some (va_rf (some x)), some (.int a1), some (.int a2), some (.int a3), some (.int a4), some (va_rf a5), some (va_rf a6), some (va_rf a7), some (.int a8), none, none, none, none, none] [] (Ro (oI y) h1) := by
  intro n
  induction n with
  | zero => intro a8 h y h1 c s H; exact zno_no H
  | succ n ih => intro a8 h y h1 c s H; exact bB_X0_plan_160 ih H
theorem b_X0_plan_139 {w : Wd} {F : Nat} {x : Nat} {a1 : Int32} {a2 : Int32} {a3 : Int32} {a4 : Int32} {a5 : Option Nat} {h h1 : Hp} {y : Int32} {c s : Nat} (H : d_X0_plan_139 w F x a1 a2 a3 a4 a5 h = some (y, h1, c, s)) : V w mX0_plan cX0_plan 802 c s h 139 [some (va_rf (some x)), some (.int a1), some (.int a2), some (.int a3), some (.int a4), some (va_rf a5), none, none, none, none, none, none, none, none] [] (Ro (oI y) h1) := by
  unfold d_X0_plan_139 at H
  refine V_aload5 eX0_plan_139 (zrf_rf _) ?_
  refine D_callI (pc' := 144) (st := []) H (fun v h' c1 s1 e cb sb k => ?_) (fun v9 h c s H => ?_)
  · obtain ⟨a, hr, ha, hk, e9⟩ := zv1_ok e
    cases hr
    exact V_invokevirtual (k := 30) eX0_plan_141 lmJ2_size q156 q157 rfl rfl q158 ha hk (c_J2_size e9) (hRet_oI _ _) rfl rfl rfl rfl (kOI k)
  refine D_newarray (g := 36) (κ := 150) (cT := 1) eX0_plan_144 rfl rfl rfl q586 rfl (by decide) H (fun n10 h c s H => ?_)
  refine V_astore6 (znl_rf _) eX0_plan_146 rfl (zrf_rf _) ?_
  refine V_aload5 eX0_plan_148 (zrf_rf _) ?_
  refine D_callI (pc' := 153) (st := []) H (fun v h' c1 s1 e cb sb k => ?_) (fun v11 h c s H => ?_)
  · obtain ⟨a, hr, ha, hk, e9⟩ := zv1_ok e
    cases hr
    exact V_invokevirtual (k := 30) eX0_plan_150 lmJ2_size q156 q157 rfl rfl q158 ha hk (c_J2_size e9) (hRet_oI _ _) rfl rfl rfl rfl (kOI k)
  refine D_newarray (g := 37) (κ := 150) (cT := 1) eX0_plan_153 rfl rfl rfl q586 rfl (by decide) H (fun n12 h c s H => ?_)
  refine V_astore7 (znl_rf _) eX0_plan_155 rfl (zrf_rf _) ?_
  refine V_iconst (v := 0) (by decide) eX0_plan_157 ?_
  refine V_istore8 (znl_rf _) eX0_plan_158 rfl ?_
  exact V_fg2 (b_X0_plan_160 _ _ _ _ _ _ _ H) (zfg_k (zfg_k (zfg_k (zfg_k (zfg_k (zfg_k (zfg_k (zfg_k (zfg_k (zfg_n (zfg_n (zfg_n (zfg_n (zfg_n zfg_e))))))))))))))
theorem b_X0_plan_133 {w : Wd} {F : Nat} {k56 : Int32 → M Int32} {x : Nat} {a1 : Int32} {a2 : Int32} {a3 : Int32} {a4 : Int32} {a5 : Option Nat} (hk56 : ∀ (a7 : Int32) (h : Hp) (y : Int32) (h1 : Hp) (c s : Nat), k56 a7 h = some (y, h1, c, s) → V w mX0_plan cX0_plan 802 c s h 56 [some (va_rf (some x)), some (.int a1), some (.int a2), some (.int a3), some (.int a4), some (va_rf a5), none, some (.int a7), none, none, none, none, none, none] [] (Ro (oI y) h1)) {a7 : Int32} {h h1 : Hp} {y : Int32} {c s : Nat} (H : d_X0_plan_133 w F k56 x a1 a2 a3 a4 a5 a7 h = some (y, h1, c, s)) : V w mX0_plan cX0_plan 802 c s h 133 [some (va_rf (some x)), some (.int a1), some (.int a2), some (.int a3), some (.int a4), some (va_rf a5), none, some (.int a7), none, none, none, none, none, none] [] (Ro (oI y) h1) := by
  unfold d_X0_plan_133 at H
  refine V_iinc7 rfl eX0_plan_133 rfl (v := 1) (by decide) ?_
  refine V_goto eX0_plan_136 ?_
  exact V_fg2 (hk56 _ _ _ _ _ _ H) (zfg_k (zfg_k (zfg_k (zfg_k (zfg_k (zfg_k (zfg_n (zfg_k (zfg_n (zfg_n (zfg_n (zfg_n (zfg_n (zfg_n zfg_e))))))))))))))
theorem bB_X0_plan_56 {w : Wd} {F : Nat} {k56 : Int32 → M Int32} {x : Nat} {a1 : Int32} {a2 : Int32} {a3 : Int32} {a4 : Int32} {a5 : Option Nat} (hk56 : ∀ (a7 : Int32) (h : Hp) (y : Int32) (h1 : Hp) (c s : Nat), k56 a7 h = some (y, h1, c, s) → V w mX0_plan cX0_plan 802 c s h 56 [some (va_rf (some x)), some (.int a1), some (.int a2), some (.int a3), some (.int a4), some (va_rf a5), none, some (.int a7), none, none, none, none, none, none] [] (Ro (oI y) h1)) {a7 : Int32} {h h1 : Hp} {y : Int32} {c s : Nat} (H : B_X0_plan_56 w F k56 x a1 a2 a3 a4 a5 a7 h = some (y, h1, c, s)) : V w mX0_plan cX0_plan 802 c s h 56 [some (va_rf (some x)), some (.int a1), some (.int a2), some (.int a3), some (.int a4), some (va_rf a5), none, some (.int a7), none, none, none, none, none, none] [] (Ro (oI y) h1) := by
  unfold B_X0_plan_56 at H
  refine V_iload7 eX0_plan_56 ?_
  refine V_aload0 eX0_plan_58 (zrf_rf _) ?_
  refine D_gR eX0_plan_59 fq_X0_121_tR H (fun v7 H => ?_)
  refine D_callI (pc' := 65) (st := [.int a7]) H (fun v h' c1 s1 e cb sb k => ?_) (fun v8 h c s H => ?_)
  · obtain ⟨a, hr, ha, hk, e9⟩ := zv1_ok e
    cases hr
    exact V_invokevirtual (k := 30) eX0_plan_62 lmJ2_size q156 q157 rfl rfl q158 ha hk (c_J2_size e9) (hRet_oI _ _) rfl rfl rfl rfl (kOI k)
  refine V_if_icmpge eX0_plan_65 (fun q => ?_) (fun q => ?_)
  · have H := zif_t q H
    exact V_fg2 (b_X0_plan_139 H) (zfg_k (zfg_k (zfg_k (zfg_k (zfg_k (zfg_k (zfg_n (zfg_n (zfg_n (zfg_n (zfg_n (zfg_n (zfg_n (zfg_n zfg_e))))))))))))))
  · have H := zif_f q H
    refine V_aload5 eX0_plan_68 (zrf_rf _) ?_
    refine D_callI (pc' := 73) (st := []) H (fun v h' c1 s1 e cb sb k => ?_) (fun v9 h c s H => ?_)
    · obtain ⟨a, hr, ha, hk, e9⟩ := zv1_ok e
      cases hr
      exact V_invokevirtual (k := 30) eX0_plan_70 lmJ2_size q156 q157 rfl rfl q158 ha hk (c_J2_size e9) (hRet_oI _ _) rfl rfl rfl rfl (kOI k)
    refine V_bipush (v := 8) (by decide) eX0_plan_73 ?_
    refine V_if_icmpge eX0_plan_75 (fun q => ?_) (fun q => ?_)
    · have H := zif_t q H
      exact V_fg2 (b_X0_plan_139 H) (zfg_k (zfg_k (zfg_k (zfg_k (zfg_k (zfg_k (zfg_n (zfg_n (zfg_n (zfg_n (zfg_n (zfg_n (zfg_n (zfg_n zfg_e))))))))))))))
    · have H := zif_f q H
      refine V_aload0 eX0_plan_78 (zrf_rf _) ?_
      refine D_gR eX0_plan_79 fq_X0_121_tR H (fun v10 H => ?_)
      refine V_iload7 eX0_plan_82 ?_
      refine D_callR (pc' := 87) (st := []) H (fun v h' c1 s1 e cb sb k => ?_) (fun v11 h c s H => ?_)
      · obtain ⟨a, hr, ha, hk, e9⟩ := zv1_ok e
        cases hr
        exact V_invokevirtual (k := 30) eX0_plan_84 lmJ2_get q160 q161 rfl rfl q162 ha hk (c_J2_get e9) (hRet_oR _ _) rfl rfl rfl rfl (kOR k)
      refine V_astore8 rfl eX0_plan_87 rfl (zrf_rf _) ?_
      refine V_aload8 eX0_plan_89 (zrf_rf _) ?_
      refine D_inst eX0_plan_91 q1014 y_X18_ok n_X18_ok H (fun v12 H => ?_)
      refine V_ifeq eX0_plan_94 (fun q => ?_) (fun q => ?_)
      · have H := zif_t q H
        exact V_fg2 (b_X0_plan_133 hk56 H) (zfg_k (zfg_k (zfg_k (zfg_k (zfg_k (zfg_k (zfg_n (zfg_k (zfg_n (zfg_n (zfg_n (zfg_n (zfg_n (zfg_n zfg_e))))))))))))))
      · have H := zif_f q H
        refine V_aload8 eX0_plan_97 (zrf_rf _) ?_
        refine D_cast eX0_plan_99 q1014 y_X18_ok H (fun H => ?_)
        refine V_astore6 (znl_rf _) eX0_plan_102 rfl (zrf_rf _) ?_
        refine V_aload6 eX0_plan_104 (zrf_rf _) ?_
        refine D_gI eX0_plan_106 fq_X0_344_tI H (fun v13 H => ?_)
        refine V_ifne eX0_plan_109 (fun q => ?_) (fun q => ?_)
        · have H := zif_f q H
          exact V_fg2 (b_X0_plan_133 hk56 H) (zfg_k (zfg_k (zfg_k (zfg_k (zfg_k (zfg_k (zfg_n (zfg_k (zfg_n (zfg_n (zfg_n (zfg_n (zfg_n (zfg_n zfg_e))))))))))))))
        · have H := zif_t q H
          refine V_aload0 eX0_plan_112 (zrf_rf _) ?_
          refine V_aload6 eX0_plan_113 (zrf_rf _) ?_
          refine V_aload0 eX0_plan_115 (zrf_rf _) ?_
          refine D_gI eX0_plan_116 fq_X0_194_tI H (fun v14 H => ?_)
          refine D_callI (pc' := 122) (st := []) H (fun v h' c1 s1 e cb sb k => ?_) (fun v15 h c s H => ?_)
          · obtain ⟨a, hr, ha, hk, e9⟩ := zv1_ok e
            cases hr
            exact V_invokevirtual (k := 0) eX0_plan_119 lmX0_canLet q1064 q1066 rfl rfl qs34 ha hk (c_X0_canLet e9) (hRet_oI _ _) rfl rfl rfl rfl (kOI k)
          refine V_ifeq eX0_plan_122 (fun q => ?_) (fun q => ?_)
          · have H := zif_t q H
            exact V_fg2 (b_X0_plan_133 hk56 H) (zfg_k (zfg_k (zfg_k (zfg_k (zfg_k (zfg_k (zfg_n (zfg_k (zfg_n (zfg_n (zfg_n (zfg_n (zfg_n (zfg_n zfg_e))))))))))))))
          · have H := zif_f q H
            refine V_aload5 eX0_plan_125 (zrf_rf _) ?_
            refine V_aload6 eX0_plan_127 (zrf_rf _) ?_
            refine D_callI (pc' := 132) (st := []) H (fun v h' c1 s1 e cb sb k => ?_) (fun v16 h c s H => ?_)
            · obtain ⟨a, hr, ha, hk, e9⟩ := zv1_ok e
              cases hr
              exact V_invokevirtual (k := 30) eX0_plan_129 lmJ2_add q196 q197 rfl rfl q198 ha hk (c_J2_add e9) (hRet_oI _ _) rfl rfl rfl rfl (kOI k)
            refine V_pop rfl eX0_plan_132 ?_
            exact V_fg2 (b_X0_plan_133 hk56 H) (zfg_k (zfg_k (zfg_k (zfg_k (zfg_k (zfg_k (zfg_n (zfg_k (zfg_n (zfg_n (zfg_n (zfg_n (zfg_n (zfg_n zfg_e))))))))))))))
theorem b_X0_plan_56 {w : Wd} {F : Nat} {x : Nat} {a1 : Int32} {a2 : Int32} {a3 : Int32} {a4 : Int32} {a5 : Option Nat} : ∀ (n : Nat) (a7 : Int32) (h : Hp) (y : Int32) (h1 : Hp) (c s : Nat), d_X0_plan_56 w F x a1 a2 a3 a4 a5 n a7 h = some (y, h1, c, s) → V w mX0_plan cX0_plan 802 c s h 56 [some (va_rf (some x)), some (.int a1), some (.int a2), some (.int a3), some (.int a4), some (va_rf a5), none, some (.int a7), none, none, none, none, none, none] [] (Ro (oI y) h1) := by
  intro n
  induction n with
  | zero => intro a7 h y h1 c s H; exact zno_no H
  | succ n ih => intro a7 h y h1 c s H; exact bB_X0_plan_56 ih H
theorem c_X0_plan {w : Wd} {F : Nat} {x : Nat} {a1 : Int32} {a2 : Int32} {a3 : Int32} {a4 : Int32} {h h1 : Hp} {y : Int32} {c s : Nat} (H : o_X0_plan w F x a1 a2 a3 a4 h = some (y, h1, c, s)) : Con w mX0_plan cX0_plan 802 c s [.ref x, .int a1, .int a2, .int a3, .int a4] h (Ro (oI y) h1) := by
  unfold o_X0_plan at H
  refine Con.of (ls := [some (va_rf (some x)), some (.int a1), some (.int a2), some (.int a3), some (.int a4), none, none, none, none, none, none, none, none, none]) (by decide +kernel) rfl rfl ?_
  refine V_iload4 eX0_plan_0 ?_
  refine V_iconst (v := 0) (by decide) eX0_plan_2 ?_
  refine V_iconst (v := 1) (by decide) eX0_plan_3 ?_
  refine D_callI (pc' := 7) (st := []) H (fun v h' c1 s1 e cb sb k => ?_) (fun v1 h c s H => ?_)
  · exact V_invokestatic eX0_plan_4 lmX0_in q149 q150 (c_X0_in e) (hRet_oI _ _) rfl rfl rfl rfl (kOI k)
  refine V_ifne eX0_plan_7 (fun q => ?_) (fun q => ?_)
  · have H := zif_f q H
    refine V_aload0 eX0_plan_12 (zrf_rf _) ?_
    refine V_iload1 eX0_plan_13 ?_
    refine D_callI (pc' := 17) (st := []) H (fun v h' c1 s1 e cb sb k => ?_) (fun v2 h c s H => ?_)
    · obtain ⟨a, hr, ha, hk, e9⟩ := zv1_ok e
      cases hr
      exact V_invokevirtual (k := 0) eX0_plan_14 lmX0_areTowns q1585 q1587 rfl rfl qs47 ha hk (c_X0_areTowns e9) (hRet_oI _ _) rfl rfl rfl rfl (kOI k)
    refine V_ifeq eX0_plan_17 (fun q => ?_) (fun q => ?_)
    · have H := zif_t q H
      exact V_fg2 (b_X0_plan_41 H) (zfg_n (zfg_n (zfg_n (zfg_n (zfg_n (zfg_n (zfg_n (zfg_n (zfg_n (zfg_n (zfg_n (zfg_n (zfg_n (zfg_n zfg_e))))))))))))))
    · have H := zif_f q H
      refine V_iload2 eX0_plan_20 ?_
      refine V_iconst (v := 0) (by decide) eX0_plan_21 ?_
      refine V_ldc (v := 99999) eX0_plan_22 q279 ?_
      refine D_callI (pc' := 27) (st := []) H (fun v h' c1 s1 e cb sb k => ?_) (fun v3 h c s H => ?_)
      · exact V_invokestatic eX0_plan_24 lmX0_in q149 q150 (c_X0_in e) (hRet_oI _ _) rfl rfl rfl rfl (kOI k)
      refine V_ifeq eX0_plan_27 (fun q => ?_) (fun q => ?_)
      · have H := zif_t q H
        exact V_fg2 (b_X0_plan_41 H) (zfg_n (zfg_n (zfg_n (zfg_n (zfg_n (zfg_n (zfg_n (zfg_n (zfg_n (zfg_n (zfg_n (zfg_n (zfg_n (zfg_n zfg_e))))))))))))))
      · have H := zif_f q H
        refine V_iload3 eX0_plan_30 ?_
        refine V_iconst (v := 0) (by decide) eX0_plan_31 ?_
        refine V_ldc_w (v := 999999) eX0_plan_32 q1603 ?_
        refine D_callI (pc' := 38) (st := []) H (fun v h' c1 s1 e cb sb k => ?_) (fun v4 h c s H => ?_)
        · exact V_invokestatic eX0_plan_35 lmX0_in q149 q150 (c_X0_in e) (hRet_oI _ _) rfl rfl rfl rfl (kOI k)
        refine V_ifne eX0_plan_38 (fun q => ?_) (fun q => ?_)
        · have H := zif_f q H
          refine D_new (g := 0) eX0_plan_44 nl_X0_33 rfl H (fun n5 h c s H => ?_)
          refine V_dup (zcr _) eX0_plan_47 ?_
          refine D_callU (pc' := 51) (st := [va_rf n5]) H (fun v h' c1 s1 e cb sb k => ?_) (fun v6 h c s H => ?_)
          · obtain ⟨a, hr, e9⟩ := znn_ok e
            cases hr
            exact V_invokeinit eX0_plan_48 lmJ2_init rfl rfl q561 q308 (c_J2_init e9) (hRet_oU _ _) rfl rfl rfl (by simp only [List.map_cons, List.map_nil, zcr]; rfl) (kOU k)
          refine V_astore5 rfl eX0_plan_51 rfl (zrf_rf _) ?_
          refine V_iconst (v := 0) (by decide) eX0_plan_53 ?_
          refine V_istore7 rfl eX0_plan_54 rfl ?_
          exact V_fg2 (b_X0_plan_56 _ _ _ _ _ _ _ H) (zfg_k (zfg_k (zfg_k (zfg_k (zfg_k (zfg_k (zfg_n (zfg_k (zfg_n (zfg_n (zfg_n (zfg_n (zfg_n (zfg_n zfg_e))))))))))))))
        · have H := zif_t q H
          exact V_fg2 (b_X0_plan_41 H) (zfg_n (zfg_n (zfg_n (zfg_n (zfg_n (zfg_n (zfg_n (zfg_n (zfg_n (zfg_n (zfg_n (zfg_n (zfg_n (zfg_n zfg_e))))))))))))))
  · have H := zif_t q H
    refine V_iconst (v := -1) (by decide) eX0_plan_10 ?_
    obtain ⟨rfl, rfl, rfl, rfl⟩ := zrt_ok H
    exact V_ireturn eX0_plan_11 rfl ⟨rfl, rfl⟩
def d_X0_triedOf_219 (w : Wd) (F : Nat) (s0 : Int32) : M Int32 :=
  zrt s0
def d_X0_triedOf_195 (w : Wd) (F : Nat) : M Int32 :=
  d_X0_triedOf_219 w F (-5 : Int32)
def d_X0_triedOf_142 (w : Wd) (F : Nat) (x : Nat) (a1 : Int32) (a2 : Int32) : M Int32 :=
  zif ((2 : Int32) ≤ a1) (zbd (zgR f_X0_towns (some x)) fun v3 =>
  zbd (zv1 30 v3 (fun a => o_J2_size w F a)) fun v4 =>
  zif (v4 < (2 : Int32)) (d_X0_triedOf_195 w F)
  (zbd (zgR f_X0_towns (some x)) fun v5 =>
  zbd (zv1 30 v5 (fun a => o_J2_get w F a (0 : Int32))) fun v6 =>
  zbd (zcc y_X3 v6) fun _ =>
  zbd (zgR f_X0_towns (some x)) fun v7 =>
  zbd (zv1 30 v7 (fun a => o_J2_get w F a (1 : Int32))) fun v8 =>
  zbd (zcc y_X3 v8) fun _ =>
  zbd (zgI f_X0_today (some x)) fun v9 =>
  zbd (zv1 0 (some x) (fun a => o_X0_findWay w F a v6 v8 v9)) fun v10 =>
  zif (v10 = 0) (d_X0_triedOf_195 w F)
  (zbd (zgR f_X0_toEnd (some x)) fun v11 =>
  zbd (zgR f_X0_towns (some x)) fun v12 =>
  zbd (zv1 30 v12 (fun a => o_J2_get w F a (0 : Int32))) fun v13 =>
  zbd (zcc y_X3 v13) fun _ =>
  zbd (zgI f_X3_cell v13) fun v14 =>
  zbd (zaI 0 v11 v14) fun v15 =>
  d_X0_triedOf_219 w F v15)))
  (d_X0_triedOf_219 w F a2)
def d_X0_triedOf_136 (w : Wd) (F : Nat) (k4 : Int32 → Int32 → M Int32) (x : Nat) (a1 : Int32) (a2 : Int32) (a3 : Int32) : M Int32 :=
  k4 a2 (a3 + (1 : Int32))
def d_X0_triedOf_134 (w : Wd) (F : Nat) (k4 : Int32 → Int32 → M Int32) (x : Nat) (a1 : Int32) (a3 : Int32) (s0 : Int32) (s1 : Int32) : M Int32 :=
  d_X0_triedOf_136 w F k4 x a1 (s0 + s1) a3
def d_X0_triedOf_133 (w : Wd) (F : Nat) (k4 : Int32 → Int32 → M Int32) (x : Nat) (a1 : Int32) (a3 : Int32) (s0 : Int32) : M Int32 :=
  d_X0_triedOf_134 w F k4 x a1 a3 s0 (0 : Int32)
def d_X0_triedOf_85 (w : Wd) (F : Nat) (k4 : Int32 → Int32 → M Int32) (x : Nat) (a1 : Int32) (a3 : Int32) (s0 : Int32) (s1 : Int32) : M Int32 :=
  d_X0_triedOf_136 w F k4 x a1 (s0 + s1) a3
def d_X0_triedOf_84 (w : Wd) (F : Nat) (k4 : Int32 → Int32 → M Int32) (x : Nat) (a1 : Int32) (a3 : Int32) (s0 : Int32) : M Int32 :=
  d_X0_triedOf_85 w F k4 x a1 a3 s0 (0 : Int32)
def B_X0_triedOf_4 (w : Wd) (F : Nat) (k4 : Int32 → Int32 → M Int32) (x : Nat) (a1 : Int32) (a2 : Int32) (a3 : Int32) : M Int32 :=
  zbd (zgR f_X0_papers (some x)) fun v1 =>
  zbd (zv1 30 v1 (fun a => o_J2_size w F a)) fun v2 =>
  zif (v2 ≤ a3) (d_X0_triedOf_142 w F x a1 a2)
  (zif ((2 : Int32) ≤ a1) (d_X0_triedOf_142 w F x a1 a2)
  (zif (a1 = 0) (zbd (zgR f_X0_papers (some x)) fun v8 =>
  zbd (zv1 30 v8 (fun a => o_J2_get w F a a3)) fun v9 =>
  zbd (zio y_X15 n_X15 v9) fun v10 =>
  zif (v10 = 0) (d_X0_triedOf_84 w F k4 x a1 a3 a2)
  (zbd (zcc y_X15 v9) fun _ =>
  zbd (zgI f_X0_today (some x)) fun v11 =>
  zbd (zv1 0 (some x) (fun a => o_X0_openAt w F a v9 v11)) fun v12 =>
  zif (v12 = (-5 : Int32)) (zbd (zgI f_X0_today (some x)) fun v13 =>
  zbd (zv1 0 (some x) (fun a => o_X0_steepAt w F a v9 v13)) fun v14 =>
  zif (v14 = (-5 : Int32)) (d_X0_triedOf_85 w F k4 x a1 a3 a2 (1 : Int32))
  (d_X0_triedOf_84 w F k4 x a1 a3 a2))
  (d_X0_triedOf_84 w F k4 x a1 a3 a2)))
  (zbd (zgR f_X0_papers (some x)) fun v3 =>
  zbd (zv1 30 v3 (fun a => o_J2_get w F a a3)) fun v4 =>
  zbd (zio y_X18 n_X18 v4) fun v5 =>
  zif (v5 = 0) (d_X0_triedOf_133 w F k4 x a1 a3 a2)
  (zbd (zcc y_X18 v4) fun _ =>
  zbd (zgI f_X0_today (some x)) fun v6 =>
  zbd (zv1 0 (some x) (fun a => o_X0_canLet w F a v4 v6)) fun v7 =>
  zif (v7 = 0) (d_X0_triedOf_133 w F k4 x a1 a3 a2)
  (d_X0_triedOf_134 w F k4 x a1 a3 a2 (1 : Int32))))))
def d_X0_triedOf_4 (w : Wd) (F : Nat) (x : Nat) (a1 : Int32) : Nat → Int32 → Int32 → M Int32
  | 0, _, _ => zno
  | n + 1, a2, a3 => B_X0_triedOf_4 w F (d_X0_triedOf_4 w F x a1 n) x a1 a2 a3
def o_X0_triedOf (w : Wd) (F : Nat) (x : Nat) (a1 : Int32) : M Int32 :=
  d_X0_triedOf_4 w F x a1 F (0 : Int32) (0 : Int32)
theorem b_X0_triedOf_219 {w : Wd} {F : Nat} {s0 : Int32} {h h1 : Hp} {y : Int32} {c s : Nat} (H : d_X0_triedOf_219 w F s0 h = some (y, h1, c, s)) : V w mX0_triedOf cX0_triedOf 802 c s h 219 [none, none, none, none, none, none, none] [.int s0] (Ro (oI y) h1) := by
  unfold d_X0_triedOf_219 at H
  obtain ⟨rfl, rfl, rfl, rfl⟩ := zrt_ok H
  exact V_ireturn eX0_triedOf_219 rfl ⟨rfl, rfl⟩
theorem b_X0_triedOf_195 {w : Wd} {F : Nat} {h h1 : Hp} {y : Int32} {c s : Nat} (H : d_X0_triedOf_195 w F h = some (y, h1, c, s)) : V w mX0_triedOf cX0_triedOf 802 c s h 195 [none, none, none, none, none, none, none] [] (Ro (oI y) h1) := by
  unfold d_X0_triedOf_195 at H
  refine V_bipush (v := -5) (by decide) eX0_triedOf_195 ?_
  refine V_goto eX0_triedOf_197 ?_
  exact V_fg2 (b_X0_triedOf_219 H) (zfg_n (zfg_n (zfg_n (zfg_n (zfg_n (zfg_n (zfg_n zfg_e)))))))
theorem b_X0_triedOf_142 {w : Wd} {F : Nat} {x : Nat} {a1 : Int32} {a2 : Int32} {h h1 : Hp} {y : Int32} {c s : Nat} (H : d_X0_triedOf_142 w F x a1 a2 h = some (y, h1, c, s)) : V w mX0_triedOf cX0_triedOf 802 c s h 142 [some (va_rf (some x)), some (.int a1), some (.int a2), none, none, none, none] [] (Ro (oI y) h1) := by
  unfold d_X0_triedOf_142 at H
  refine V_iload1 eX0_triedOf_142 ?_
  refine V_iconst (v := 2) (by decide) eX0_triedOf_143 ?_
  refine V_if_icmpge eX0_triedOf_144 (fun q => ?_) (fun q => ?_)
  · have H := zif_t q H
    refine V_aload0 eX0_triedOf_151 (zrf_rf _) ?_
    refine D_gR eX0_triedOf_152 fq_X0_28_tR H (fun v3 H => ?_)
    refine D_callI (pc' := 158) (st := []) H (fun v h' c1 s1 e cb sb k => ?_) (fun v4 h c s H => ?_)
    · obtain ⟨a, hr, ha, hk, e9⟩ := zv1_ok e
      cases hr
      exact V_invokevirtual (k := 30) eX0_triedOf_155 lmJ2_size q156 q157 rfl rfl q158 ha hk (c_J2_size e9) (hRet_oI _ _) rfl rfl rfl rfl (kOI k)
    refine V_iconst (v := 2) (by decide) eX0_triedOf_158 ?_
    refine V_if_icmplt eX0_triedOf_159 (fun q => ?_) (fun q => ?_)
    · have H := zif_t q H
      exact V_fg2 (b_X0_triedOf_195 H) (zfg_n (zfg_n (zfg_n (zfg_n (zfg_n (zfg_n (zfg_n zfg_e)))))))
    · have H := zif_f q H
      refine V_aload0 eX0_triedOf_162 (zrf_rf _) ?_
      refine V_aload0 eX0_triedOf_163 (zrf_rf _) ?_
      refine D_gR eX0_triedOf_164 fq_X0_28_tR H (fun v5 H => ?_)
      refine V_iconst (v := 0) (by decide) eX0_triedOf_167 ?_
      refine D_callR (pc' := 171) (st := [va_rf (some x)]) H (fun v h' c1 s1 e cb sb k => ?_) (fun v6 h c s H => ?_)
      · obtain ⟨a, hr, ha, hk, e9⟩ := zv1_ok e
        cases hr
        exact V_invokevirtual (k := 30) eX0_triedOf_168 lmJ2_get q160 q161 rfl rfl q162 ha hk (c_J2_get e9) (hRet_oR _ _) rfl rfl rfl (by simp only [List.map_cons, List.map_nil, zcr]; rfl) (kOR k)
      refine D_cast eX0_triedOf_171 q174 y_X3_ok H (fun H => ?_)
      refine V_aload0 eX0_triedOf_174 (zrf_rf _) ?_
      refine D_gR eX0_triedOf_175 fq_X0_28_tR H (fun v7 H => ?_)
      refine V_iconst (v := 1) (by decide) eX0_triedOf_178 ?_
      refine D_callR (pc' := 182) (st := [va_rf v6, va_rf (some x)]) H (fun v h' c1 s1 e cb sb k => ?_) (fun v8 h c s H => ?_)
      · obtain ⟨a, hr, ha, hk, e9⟩ := zv1_ok e
        cases hr
        exact V_invokevirtual (k := 30) eX0_triedOf_179 lmJ2_get q160 q161 rfl rfl q162 ha hk (c_J2_get e9) (hRet_oR _ _) rfl rfl rfl (by simp only [List.map_cons, List.map_nil, zcr]; rfl) (kOR k)
      refine D_cast eX0_triedOf_182 q174 y_X3_ok H (fun H => ?_)
      refine V_aload0 eX0_triedOf_185 (zrf_rf _) ?_
      refine D_gI eX0_triedOf_186 fq_X0_194_tI H (fun v9 H => ?_)
      refine D_callI (pc' := 192) (st := []) H (fun v h' c1 s1 e cb sb k => ?_) (fun v10 h c s H => ?_)
      · obtain ⟨a, hr, ha, hk, e9⟩ := zv1_ok e
        cases hr
        exact V_invokevirtual (k := 0) eX0_triedOf_189 lmX0_findWay q981 q983 rfl rfl qs31 ha hk (c_X0_findWay e9) (hRet_oI _ _) rfl rfl rfl rfl (kOI k)
      refine V_ifne eX0_triedOf_192 (fun q => ?_) (fun q => ?_)
      · have H := zif_f q H
        refine V_aload0 eX0_triedOf_200 (zrf_rf _) ?_
        refine D_gR eX0_triedOf_201 fq_X0_148_tR H (fun v11 H => ?_)
        refine V_aload0 eX0_triedOf_204 (zrf_rf _) ?_
        refine D_gR eX0_triedOf_205 fq_X0_28_tR H (fun v12 H => ?_)
        refine V_iconst (v := 0) (by decide) eX0_triedOf_208 ?_
        refine D_callR (pc' := 212) (st := [va_rf v11]) H (fun v h' c1 s1 e cb sb k => ?_) (fun v13 h c s H => ?_)
        · obtain ⟨a, hr, ha, hk, e9⟩ := zv1_ok e
          cases hr
          exact V_invokevirtual (k := 30) eX0_triedOf_209 lmJ2_get q160 q161 rfl rfl q162 ha hk (c_J2_get e9) (hRet_oR _ _) rfl rfl rfl (by simp only [List.map_cons, List.map_nil, zcr]; rfl) (kOR k)
        refine D_cast eX0_triedOf_212 q174 y_X3_ok H (fun H => ?_)
        refine D_gI eX0_triedOf_215 fq_X0_44_tI H (fun v14 H => ?_)
        refine D_iaload eX0_triedOf_218 H (fun v15 H => ?_)
        exact V_fg2 (b_X0_triedOf_219 H) (zfg_n (zfg_n (zfg_n (zfg_n (zfg_n (zfg_n (zfg_n zfg_e)))))))
      · have H := zif_t q H
        exact V_fg2 (b_X0_triedOf_195 H) (zfg_n (zfg_n (zfg_n (zfg_n (zfg_n (zfg_n (zfg_n zfg_e)))))))
  · have H := zif_f q H
    refine V_iload2 eX0_triedOf_147 ?_
    refine V_goto eX0_triedOf_148 ?_
    exact V_fg2 (b_X0_triedOf_219 H) (zfg_n (zfg_n (zfg_n (zfg_n (zfg_n (zfg_n (zfg_n zfg_e)))))))
theorem b_X0_triedOf_136 {w : Wd} {F : Nat} {k4 : Int32 → Int32 → M Int32} {x : Nat} {a1 : Int32} (hk4 : ∀ (a2 : Int32) (a3 : Int32) (h : Hp) (y : Int32) (h1 : Hp) (c s : Nat), k4 a2 a3 h = some (y, h1, c, s) → V w mX0_triedOf cX0_triedOf 802 c s h 4 [some (va_rf (some x)), some (.int a1), some (.int a2), some (.int a3), none, none, none] [] (Ro (oI y) h1)) {a2 : Int32} {a3 : Int32} {h h1 : Hp} {y : Int32} {c s : Nat} (H : d_X0_triedOf_136 w F k4 x a1 a2 a3 h = some (y, h1, c, s)) : V w mX0_triedOf cX0_triedOf 802 c s h 136 [some (va_rf (some x)), some (.int a1), some (.int a2), some (.int a3), none, none, none] [] (Ro (oI y) h1) := by
  unfold d_X0_triedOf_136 at H
  refine V_iinc3 rfl eX0_triedOf_136 rfl (v := 1) (by decide) ?_
  refine V_goto eX0_triedOf_139 ?_
  exact V_fg2 (hk4 _ _ _ _ _ _ _ H) (zfg_k (zfg_k (zfg_k (zfg_k (zfg_n (zfg_n (zfg_n zfg_e)))))))
theorem b_X0_triedOf_134 {w : Wd} {F : Nat} {k4 : Int32 → Int32 → M Int32} {x : Nat} {a1 : Int32} (hk4 : ∀ (a2 : Int32) (a3 : Int32) (h : Hp) (y : Int32) (h1 : Hp) (c s : Nat), k4 a2 a3 h = some (y, h1, c, s) → V w mX0_triedOf cX0_triedOf 802 c s h 4 [some (va_rf (some x)), some (.int a1), some (.int a2), some (.int a3), none, none, none] [] (Ro (oI y) h1)) {a3 : Int32} {s0 : Int32} {s1 : Int32} {h h1 : Hp} {y : Int32} {c s : Nat} (H : d_X0_triedOf_134 w F k4 x a1 a3 s0 s1 h = some (y, h1, c, s)) : V w mX0_triedOf cX0_triedOf 802 c s h 134 [some (va_rf (some x)), some (.int a1), none, some (.int a3), none, none, none] [.int s1, .int s0] (Ro (oI y) h1) := by
  unfold d_X0_triedOf_134 at H
  refine V_iadd eX0_triedOf_134 ?_
  refine V_istore2 rfl eX0_triedOf_135 rfl ?_
  exact V_fg2 (b_X0_triedOf_136 hk4 H) (zfg_k (zfg_k (zfg_k (zfg_k (zfg_n (zfg_n (zfg_n zfg_e)))))))
theorem b_X0_triedOf_133 {w : Wd} {F : Nat} {k4 : Int32 → Int32 → M Int32} {x : Nat} {a1 : Int32} (hk4 : ∀ (a2 : Int32) (a3 : Int32) (h : Hp) (y : Int32) (h1 : Hp) (c s : Nat), k4 a2 a3 h = some (y, h1, c, s) → V w mX0_triedOf cX0_triedOf 802 c s h 4 [some (va_rf (some x)), some (.int a1), some (.int a2), some (.int a3), none, none, none] [] (Ro (oI y) h1)) {a3 : Int32} {s0 : Int32} {h h1 : Hp} {y : Int32} {c s : Nat} (H : d_X0_triedOf_133 w F k4 x a1 a3 s0 h = some (y, h1, c, s)) : V w mX0_triedOf cX0_triedOf 802 c s h 133 [some (va_rf (some x)), some (.int a1), none, some (.int a3), none, none, none] [.int s0] (Ro (oI y) h1) := by
  unfold d_X0_triedOf_133 at H
  refine V_iconst (v := 0) (by decide) eX0_triedOf_133 ?_
  exact V_fg2 (b_X0_triedOf_134 hk4 H) (zfg_k (zfg_k (zfg_n (zfg_k (zfg_n (zfg_n (zfg_n zfg_e)))))))
theorem b_X0_triedOf_85 {w : Wd} {F : Nat} {k4 : Int32 → Int32 → M Int32} {x : Nat} {a1 : Int32} (hk4 : ∀ (a2 : Int32) (a3 : Int32) (h : Hp) (y : Int32) (h1 : Hp) (c s : Nat), k4 a2 a3 h = some (y, h1, c, s) → V w mX0_triedOf cX0_triedOf 802 c s h 4 [some (va_rf (some x)), some (.int a1), some (.int a2), some (.int a3), none, none, none] [] (Ro (oI y) h1)) {a3 : Int32} {s0 : Int32} {s1 : Int32} {h h1 : Hp} {y : Int32} {c s : Nat} (H : d_X0_triedOf_85 w F k4 x a1 a3 s0 s1 h = some (y, h1, c, s)) : V w mX0_triedOf cX0_triedOf 802 c s h 85 [some (va_rf (some x)), some (.int a1), none, some (.int a3), none, none, none] [.int s1, .int s0] (Ro (oI y) h1) := by
  unfold d_X0_triedOf_85 at H
  refine V_iadd eX0_triedOf_85 ?_
  refine V_istore2 rfl eX0_triedOf_86 rfl ?_
  refine V_goto eX0_triedOf_87 ?_
  exact V_fg2 (b_X0_triedOf_136 hk4 H) (zfg_k (zfg_k (zfg_k (zfg_k (zfg_n (zfg_n (zfg_n zfg_e)))))))
theorem b_X0_triedOf_84 {w : Wd} {F : Nat} {k4 : Int32 → Int32 → M Int32} {x : Nat} {a1 : Int32} (hk4 : ∀ (a2 : Int32) (a3 : Int32) (h : Hp) (y : Int32) (h1 : Hp) (c s : Nat), k4 a2 a3 h = some (y, h1, c, s) → V w mX0_triedOf cX0_triedOf 802 c s h 4 [some (va_rf (some x)), some (.int a1), some (.int a2), some (.int a3), none, none, none] [] (Ro (oI y) h1)) {a3 : Int32} {s0 : Int32} {h h1 : Hp} {y : Int32} {c s : Nat} (H : d_X0_triedOf_84 w F k4 x a1 a3 s0 h = some (y, h1, c, s)) : V w mX0_triedOf cX0_triedOf 802 c s h 84 [some (va_rf (some x)), some (.int a1), none, some (.int a3), none, none, none] [.int s0] (Ro (oI y) h1) := by
  unfold d_X0_triedOf_84 at H
  refine V_iconst (v := 0) (by decide) eX0_triedOf_84 ?_
  exact V_fg2 (b_X0_triedOf_85 hk4 H) (zfg_k (zfg_k (zfg_n (zfg_k (zfg_n (zfg_n (zfg_n zfg_e)))))))
theorem bB_X0_triedOf_4 {w : Wd} {F : Nat} {k4 : Int32 → Int32 → M Int32} {x : Nat} {a1 : Int32} (hk4 : ∀ (a2 : Int32) (a3 : Int32) (h : Hp) (y : Int32) (h1 : Hp) (c s : Nat), k4 a2 a3 h = some (y, h1, c, s) → V w mX0_triedOf cX0_triedOf 802 c s h 4 [some (va_rf (some x)), some (.int a1), some (.int a2), some (.int a3), none, none, none] [] (Ro (oI y) h1)) {a2 : Int32} {a3 : Int32} {h h1 : Hp} {y : Int32} {c s : Nat} (H : B_X0_triedOf_4 w F k4 x a1 a2 a3 h = some (y, h1, c, s)) : V w mX0_triedOf cX0_triedOf 802 c s h 4 [some (va_rf (some x)), some (.int a1), some (.int a2), some (.int a3), none, none, none] [] (Ro (oI y) h1) := by
  unfold B_X0_triedOf_4 at H
  refine V_iload3 eX0_triedOf_4 ?_
  refine V_aload0 eX0_triedOf_5 (zrf_rf _) ?_
  refine D_gR eX0_triedOf_6 fq_X0_121_tR H (fun v1 H => ?_)
  refine D_callI (pc' := 12) (st := [.int a3]) H (fun v h' c1 s1 e cb sb k => ?_) (fun v2 h c s H => ?_)
  · obtain ⟨a, hr, ha, hk, e9⟩ := zv1_ok e
    cases hr
    exact V_invokevirtual (k := 30) eX0_triedOf_9 lmJ2_size q156 q157 rfl rfl q158 ha hk (c_J2_size e9) (hRet_oI _ _) rfl rfl rfl rfl (kOI k)
  refine V_if_icmpge eX0_triedOf_12 (fun q => ?_) (fun q => ?_)
  · have H := zif_t q H
    exact V_fg2 (b_X0_triedOf_142 H) (zfg_k (zfg_k (zfg_k (zfg_n (zfg_n (zfg_n (zfg_n zfg_e)))))))
  · have H := zif_f q H
    refine V_iload1 eX0_triedOf_15 ?_
    refine V_iconst (v := 2) (by decide) eX0_triedOf_16 ?_
    refine V_if_icmpge eX0_triedOf_17 (fun q => ?_) (fun q => ?_)
    · have H := zif_t q H
      exact V_fg2 (b_X0_triedOf_142 H) (zfg_k (zfg_k (zfg_k (zfg_n (zfg_n (zfg_n (zfg_n zfg_e)))))))
    · have H := zif_f q H
      refine V_iload1 eX0_triedOf_20 ?_
      refine V_ifne eX0_triedOf_21 (fun q => ?_) (fun q => ?_)
      · have H := zif_f q H
        refine V_iload2 eX0_triedOf_90 ?_
        refine V_aload0 eX0_triedOf_91 (zrf_rf _) ?_
        refine D_gR eX0_triedOf_92 fq_X0_121_tR H (fun v3 H => ?_)
        refine V_iload3 eX0_triedOf_95 ?_
        refine D_callR (pc' := 99) (st := [.int a2]) H (fun v h' c1 s1 e cb sb k => ?_) (fun v4 h c s H => ?_)
        · obtain ⟨a, hr, ha, hk, e9⟩ := zv1_ok e
          cases hr
          exact V_invokevirtual (k := 30) eX0_triedOf_96 lmJ2_get q160 q161 rfl rfl q162 ha hk (c_J2_get e9) (hRet_oR _ _) rfl rfl rfl rfl (kOR k)
        refine V_astore6 rfl eX0_triedOf_99 rfl (zrf_rf _) ?_
        refine V_aload6 eX0_triedOf_101 (zrf_rf _) ?_
        refine D_inst eX0_triedOf_103 q1014 y_X18_ok n_X18_ok H (fun v5 H => ?_)
        refine V_ifeq eX0_triedOf_106 (fun q => ?_) (fun q => ?_)
        · have H := zif_t q H
          exact V_fg2 (b_X0_triedOf_133 hk4 H) (zfg_k (zfg_k (zfg_n (zfg_k (zfg_n (zfg_n (zfg_n zfg_e)))))))
        · have H := zif_f q H
          refine V_aload6 eX0_triedOf_109 (zrf_rf _) ?_
          refine D_cast eX0_triedOf_111 q1014 y_X18_ok H (fun H => ?_)
          refine V_astore5 rfl eX0_triedOf_114 rfl (zrf_rf _) ?_
          refine V_aload0 eX0_triedOf_116 (zrf_rf _) ?_
          refine V_aload5 eX0_triedOf_117 (zrf_rf _) ?_
          refine V_aload0 eX0_triedOf_119 (zrf_rf _) ?_
          refine D_gI eX0_triedOf_120 fq_X0_194_tI H (fun v6 H => ?_)
          refine D_callI (pc' := 126) (st := [.int a2]) H (fun v h' c1 s1 e cb sb k => ?_) (fun v7 h c s H => ?_)
          · obtain ⟨a, hr, ha, hk, e9⟩ := zv1_ok e
            cases hr
            exact V_invokevirtual (k := 0) eX0_triedOf_123 lmX0_canLet q1064 q1066 rfl rfl qs34 ha hk (c_X0_canLet e9) (hRet_oI _ _) rfl rfl rfl rfl (kOI k)
          refine V_ifeq eX0_triedOf_126 (fun q => ?_) (fun q => ?_)
          · have H := zif_t q H
            exact V_fg2 (b_X0_triedOf_133 hk4 H) (zfg_k (zfg_k (zfg_n (zfg_k (zfg_n (zfg_n (zfg_n zfg_e)))))))
          · have H := zif_f q H
            refine V_iconst (v := 1) (by decide) eX0_triedOf_129 ?_
            refine V_goto eX0_triedOf_130 ?_
            exact V_fg2 (b_X0_triedOf_134 hk4 H) (zfg_k (zfg_k (zfg_n (zfg_k (zfg_n (zfg_n (zfg_n zfg_e)))))))
      · have H := zif_t q H
        refine V_iload2 eX0_triedOf_24 ?_
        refine V_aload0 eX0_triedOf_25 (zrf_rf _) ?_
        refine D_gR eX0_triedOf_26 fq_X0_121_tR H (fun v8 H => ?_)
        refine V_iload3 eX0_triedOf_29 ?_
        refine D_callR (pc' := 33) (st := [.int a2]) H (fun v h' c1 s1 e cb sb k => ?_) (fun v9 h c s H => ?_)
        · obtain ⟨a, hr, ha, hk, e9⟩ := zv1_ok e
          cases hr
          exact V_invokevirtual (k := 30) eX0_triedOf_30 lmJ2_get q160 q161 rfl rfl q162 ha hk (c_J2_get e9) (hRet_oR _ _) rfl rfl rfl rfl (kOR k)
        refine V_astore6 rfl eX0_triedOf_33 rfl (zrf_rf _) ?_
        refine V_aload6 eX0_triedOf_35 (zrf_rf _) ?_
        refine D_inst eX0_triedOf_37 q826 y_X15_ok n_X15_ok H (fun v10 H => ?_)
        refine V_ifeq eX0_triedOf_40 (fun q => ?_) (fun q => ?_)
        · have H := zif_t q H
          exact V_fg2 (b_X0_triedOf_84 hk4 H) (zfg_k (zfg_k (zfg_n (zfg_k (zfg_n (zfg_n (zfg_n zfg_e)))))))
        · have H := zif_f q H
          refine V_aload6 eX0_triedOf_43 (zrf_rf _) ?_
          refine D_cast eX0_triedOf_45 q826 y_X15_ok H (fun H => ?_)
          refine V_astore4 rfl eX0_triedOf_48 rfl (zrf_rf _) ?_
          refine V_aload0 eX0_triedOf_50 (zrf_rf _) ?_
          refine V_aload4 eX0_triedOf_51 (zrf_rf _) ?_
          refine V_aload0 eX0_triedOf_53 (zrf_rf _) ?_
          refine D_gI eX0_triedOf_54 fq_X0_194_tI H (fun v11 H => ?_)
          refine D_callI (pc' := 60) (st := [.int a2]) H (fun v h' c1 s1 e cb sb k => ?_) (fun v12 h c s H => ?_)
          · obtain ⟨a, hr, ha, hk, e9⟩ := zv1_ok e
            cases hr
            exact V_invokevirtual (k := 0) eX0_triedOf_57 lmX0_openAt q965 q967 rfl rfl qs29 ha hk (c_X0_openAt e9) (hRet_oI _ _) rfl rfl rfl rfl (kOI k)
          refine V_bipush (v := -5) (by decide) eX0_triedOf_60 ?_
          refine V_if_icmpne eX0_triedOf_62 (fun q => ?_) (fun q => ?_)
          · have H := zif_f q H
            exact V_fg2 (b_X0_triedOf_84 hk4 H) (zfg_k (zfg_k (zfg_n (zfg_k (zfg_n (zfg_n (zfg_n zfg_e)))))))
          · have H := zif_t q H
            refine V_aload0 eX0_triedOf_65 (zrf_rf _) ?_
            refine V_aload4 eX0_triedOf_66 (zrf_rf _) ?_
            refine V_aload0 eX0_triedOf_68 (zrf_rf _) ?_
            refine D_gI eX0_triedOf_69 fq_X0_194_tI H (fun v13 H => ?_)
            refine D_callI (pc' := 75) (st := [.int a2]) H (fun v h' c1 s1 e cb sb k => ?_) (fun v14 h c s H => ?_)
            · obtain ⟨a, hr, ha, hk, e9⟩ := zv1_ok e
              cases hr
              exact V_invokevirtual (k := 0) eX0_triedOf_72 lmX0_steepAt q969 q971 rfl rfl qs30 ha hk (c_X0_steepAt e9) (hRet_oI _ _) rfl rfl rfl rfl (kOI k)
            refine V_bipush (v := -5) (by decide) eX0_triedOf_75 ?_
            refine V_if_icmpne eX0_triedOf_77 (fun q => ?_) (fun q => ?_)
            · have H := zif_f q H
              exact V_fg2 (b_X0_triedOf_84 hk4 H) (zfg_k (zfg_k (zfg_n (zfg_k (zfg_n (zfg_n (zfg_n zfg_e)))))))
            · have H := zif_t q H
              refine V_iconst (v := 1) (by decide) eX0_triedOf_80 ?_
              refine V_goto eX0_triedOf_81 ?_
              exact V_fg2 (b_X0_triedOf_85 hk4 H) (zfg_k (zfg_k (zfg_n (zfg_k (zfg_n (zfg_n (zfg_n zfg_e)))))))
theorem b_X0_triedOf_4 {w : Wd} {F : Nat} {x : Nat} {a1 : Int32} : ∀ (n : Nat) (a2 : Int32) (a3 : Int32) (h : Hp) (y : Int32) (h1 : Hp) (c s : Nat), d_X0_triedOf_4 w F x a1 n a2 a3 h = some (y, h1, c, s) → V w mX0_triedOf cX0_triedOf 802 c s h 4 [some (va_rf (some x)), some (.int a1), some (.int a2), some (.int a3), none, none, none] [] (Ro (oI y) h1) := by
  intro n
  induction n with
  | zero => intro a2 a3 h y h1 c s H; exact zno_no H
  | succ n ih => intro a2 a3 h y h1 c s H; exact bB_X0_triedOf_4 ih H
theorem c_X0_triedOf {w : Wd} {F : Nat} {x : Nat} {a1 : Int32} {h h1 : Hp} {y : Int32} {c s : Nat} (H : o_X0_triedOf w F x a1 h = some (y, h1, c, s)) : Con w mX0_triedOf cX0_triedOf 802 c s [.ref x, .int a1] h (Ro (oI y) h1) := by
  unfold o_X0_triedOf at H
  refine Con.of (ls := [some (va_rf (some x)), some (.int a1), none, none, none, none, none]) (by decide +kernel) rfl rfl ?_
  refine V_iconst (v := 0) (by decide) eX0_triedOf_0 ?_
  refine V_istore2 rfl eX0_triedOf_1 rfl ?_
  refine V_iconst (v := 0) (by decide) eX0_triedOf_2 ?_
  refine V_istore3 rfl eX0_triedOf_3 rfl ?_
  exact V_fg2 (b_X0_triedOf_4 _ _ _ _ _ _ _ _ H) (zfg_k (zfg_k (zfg_k (zfg_k (zfg_n (zfg_n (zfg_n zfg_e)))))))
