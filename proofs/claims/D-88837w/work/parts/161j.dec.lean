set_option maxRecDepth 100000
theorem fq_X0_474_tI : FQ RX0 474 f_X23_many tI := by
  intro k j e
  unfold f_X23_many at e
  split at e
  · cases e; exact ⟨fl_X0_474_23, Or.inl rfl⟩
  · cases e
theorem fq_X0_489_tZ : FQ RX0 489 f_X21_settled tZ := by
  intro k j e
  unfold f_X21_settled at e
  split at e
  · cases e; exact ⟨fl_X0_489_21, rfl⟩
  · cases e; exact ⟨fl_X0_489_22, rfl⟩
  · cases e
theorem fn_X0_settle_489 : FN mX0_settle 489 f_X21_settled := by
  intro k j e
  unfold f_X21_settled at e
  split at e
  · cases e; exact Or.inl rfl
  · cases e; exact Or.inl rfl
  · cases e
theorem fn_X0_settle_415 : FN mX0_settle 415 f_X13_coins := by
  intro k j e
  unfold f_X13_coins at e
  split at e
  · cases e; exact Or.inl rfl
  · cases e; exact Or.inl rfl
  · cases e; exact Or.inl rfl
  · cases e
theorem fq_X0_407_tZ : FQ RX0 407 f_X13_fallen tZ := by
  intro k j e
  unfold f_X13_fallen at e
  split at e
  · cases e; exact ⟨fl_X0_407_13, rfl⟩
  · cases e; exact ⟨fl_X0_407_15, rfl⟩
  · cases e; exact ⟨fl_X0_407_18, rfl⟩
  · cases e
theorem fn_X0_settle_407 : FN mX0_settle 407 f_X13_fallen := by
  intro k j e
  unfold f_X13_fallen at e
  split at e
  · cases e; exact Or.inl rfl
  · cases e; exact Or.inl rfl
  · cases e; exact Or.inl rfl
  · cases e
theorem fq_X0_482_tR : FQ RX0 482 f_X23_owes tR := by
  intro k j e
  unfold f_X23_owes at e
  split at e
  · cases e; exact ⟨fl_X0_482_23, Or.inr ⟨_, rfl⟩⟩
  · cases e
def d_X0_settle_232 (w : Wd) (F : Nat) (k190 : Int32 → M Int32) (x : Nat) (a2 : Int32) (a4 : Int32) : M Int32 :=
  k190 (a4 + (1 : Int32))
def B_X0_settle_190 (w : Wd) (F : Nat) (k190 : Int32 → M Int32) (x : Nat) (a2 : Int32) (a4 : Int32) : M Int32 :=
  zbd (zgR f_X0_papers (some x)) fun v5 =>
  zbd (zv1 30 v5 (fun a => o_J2_size w F a)) fun v6 =>
  zif (v6 ≤ a4) (zrt a2)
  (zbd (zgR f_X0_papers (some x)) fun v7 =>
  zbd (zv1 30 v7 (fun a => o_J2_get w F a a4)) fun v8 =>
  zbd (zio y_X21 n_X21 v8) fun v9 =>
  zif (v9 = 0) (d_X0_settle_232 w F k190 x a2 a4)
  (zbd (zcc y_X21 v8) fun _ =>
  zbd (zpZ f_X21_settled v8 (1 : Int32)) fun _ =>
  d_X0_settle_232 w F k190 x a2 a4))
def d_X0_settle_190 (w : Wd) (F : Nat) (x : Nat) (a2 : Int32) : Nat → Int32 → M Int32
  | 0, _ => zno
  | n + 1, a4 => B_X0_settle_190 w F (d_X0_settle_190 w F x a2 n) x a2 a4
def B_X0_settle_130 (w : Wd) (F : Nat) (k130 : Int32 → M Int32) (x : Nat) (a1 : Option Nat) (a2 : Int32) (a3 : Int32) : M Int32 :=
  zbd (zgI f_X0_schemes (some x)) fun v4 =>
  zif (v4 ≤ a3) (d_X0_settle_190 w F x a2 F (0 : Int32))
  (zbd (zv1 0 (some x) (fun a => o_X0_schemeBy w F a a3)) fun v5 =>
  zbd (zgL f_X13_coins v5) fun v6 =>
  zbd (zv1 23 a1 (fun a => o_X23_gets w F a ((8 : Int32) + a3))) fun v7 =>
  zbd (zpL f_X13_coins v5 (v6 + v7)) fun _ =>
  zbd (zgI f_X13_fallen v5) fun v8 =>
  zbd (zv1 23 a1 (fun a => o_X23_falls w F a ((8 : Int32) + a3))) fun v9 =>
  zbd (zpZ f_X13_fallen v5 (v8 ||| v9)) fun _ =>
  k130 (a3 + (1 : Int32)))
def d_X0_settle_130 (w : Wd) (F : Nat) (x : Nat) (a1 : Option Nat) (a2 : Int32) : Nat → Int32 → M Int32
  | 0, _ => zno
  | n + 1, a3 => B_X0_settle_130 w F (d_X0_settle_130 w F x a1 a2 n) x a1 a2 a3
def d_X0_settle_122 (w : Wd) (F : Nat) (k47 : Int32 → M Int32) (x : Nat) (a1 : Option Nat) (a2 : Int32) (a3 : Int32) : M Int32 :=
  k47 (a3 + (1 : Int32))
def d_X0_settle_116 (w : Wd) (F : Nat) (k70 : Int32 → M Int32) (x : Nat) (a1 : Option Nat) (a2 : Int32) (a3 : Int32) (a4 : Int32) : M Int32 :=
  k70 (a4 + (1 : Int32))
def B_X0_settle_70 (w : Wd) (F : Nat) (k47 : Int32 → M Int32) (k70 : Int32 → M Int32) (x : Nat) (a1 : Option Nat) (a2 : Int32) (a3 : Int32) (a4 : Int32) : M Int32 :=
  zbd (zgI f_X0_schemes (some x)) fun v7 =>
  zif (v7 ≤ a4) (d_X0_settle_122 w F k47 x a1 a2 a3)
  (zbd (zv1 23 a1 (fun a => o_X23_falls w F a a3)) fun v8 =>
  zif (v8 = 0) (d_X0_settle_122 w F k47 x a1 a2 a3)
  (zbd (zgR f_X23_owes a1) fun v9 =>
  zbd (zaR v9 a3) fun v10 =>
  zbd (zaL v10 ((8 : Int32) + a4)) fun v11 =>
  zif ((lg_cmp v11 (0 : Int64)) ≤ 0) (d_X0_settle_116 w F k70 x a1 a2 a3 a4)
  (zbd (zv1 0 (some x) (fun a => o_X0_schemeBy w F a a4)) fun v12 =>
  zbd (zgR f_X13_held v12) fun v13 =>
  zbd (zsI 0 v13 a3 (0 : Int32)) fun _ =>
  d_X0_settle_116 w F k70 x a1 a2 a3 a4)))
def d_X0_settle_70 (w : Wd) (F : Nat) (k47 : Int32 → M Int32) (x : Nat) (a1 : Option Nat) (a2 : Int32) (a3 : Int32) : Nat → Int32 → M Int32
  | 0, _ => zno
  | n + 1, a4 => B_X0_settle_70 w F k47 (d_X0_settle_70 w F k47 x a1 a2 a3 n) x a1 a2 a3 a4
def B_X0_settle_47 (w : Wd) (F : Nat) (k47 : Int32 → M Int32) (x : Nat) (a1 : Option Nat) (a2 : Int32) (a3 : Int32) : M Int32 :=
  zif ((8 : Int32) ≤ a3) (d_X0_settle_130 w F x a1 a2 F (0 : Int32))
  (zbd (zgR f_X0_coins (some x)) fun v4 =>
  zbd (zaL v4 a3) fun v5 =>
  zbd (zv1 23 a1 (fun a => o_X23_gets w F a a3)) fun v6 =>
  zbd (zsL v4 a3 (v5 + v6)) fun _ =>
  d_X0_settle_70 w F k47 x a1 a2 a3 F (0 : Int32))
def d_X0_settle_47 (w : Wd) (F : Nat) (x : Nat) (a1 : Option Nat) (a2 : Int32) : Nat → Int32 → M Int32
  | 0, _ => zno
  | n + 1, a3 => B_X0_settle_47 w F (d_X0_settle_47 w F x a1 a2 n) x a1 a2 a3
def d_X0_settle_37 (w : Wd) (F : Nat) (k13 : Int32 → Int32 → M Int32) (x : Nat) (a1 : Option Nat) (a3 : Int32) (s0 : Int32) (s1 : Int32) : M Int32 :=
  k13 (s0 ||| s1) (a3 + (1 : Int32))
def B_X0_settle_13 (w : Wd) (F : Nat) (k13 : Int32 → Int32 → M Int32) (x : Nat) (a1 : Option Nat) (a2 : Int32) (a3 : Int32) : M Int32 :=
  zbd (zgI f_X23_many a1) fun v3 =>
  zif (v3 ≤ a3) (d_X0_settle_47 w F x a1 a2 F (0 : Int32))
  (zbd (zv1 23 a1 (fun a => o_X23_falls w F a a3)) fun v4 =>
  zif (v4 = 0) (d_X0_settle_37 w F k13 x a1 a3 a2 (0 : Int32))
  (d_X0_settle_37 w F k13 x a1 a3 a2 ((1 : Int32) <<< (a3 &&& 31))))
def d_X0_settle_13 (w : Wd) (F : Nat) (x : Nat) (a1 : Option Nat) : Nat → Int32 → Int32 → M Int32
  | 0, _, _ => zno
  | n + 1, a2, a3 => B_X0_settle_13 w F (d_X0_settle_13 w F x a1 n) x a1 a2 a3
def o_X0_settle (w : Wd) (F : Nat) (x : Nat) : M Int32 :=
  zbd (znw 23 0 7) fun n1 =>
  zbd (znn n1 (fun a => o_X23_init w F a (some x))) fun _ =>
  d_X0_settle_13 w F x n1 F (0 : Int32) (0 : Int32)
theorem b_X0_settle_232 {w : Wd} {F : Nat} (hMA : MAp w) {k190 : Int32 → M Int32} {x : Nat} {a2 : Int32} (hk190 : ∀ (a4 : Int32) (h : Hp) (y : Int32) (h1 : Hp) (c s : Nat), k190 a4 h = some (y, h1, c, s) → V w mX0_settle cX0_settle 6 c s h 190 [some (va_rf (some x)), none, some (.int a2), none, some (.int a4), none] [] (Ro (oI y) h1)) {a4 : Int32} {h h1 : Hp} {y : Int32} {c s : Nat} (H : d_X0_settle_232 w F k190 x a2 a4 h = some (y, h1, c, s)) : V w mX0_settle cX0_settle 6 c s h 232 [some (va_rf (some x)), none, some (.int a2), none, some (.int a4), none] [] (Ro (oI y) h1) := by
  unfold d_X0_settle_232 at H
  refine V_iinc4 rfl eX0_settle_232 rfl (v := 1) (by decide) ?_
  refine V_goto eX0_settle_235 ?_
  exact V_fg2 (hk190 _ _ _ _ _ _ H) (zfg_k (zfg_n (zfg_k (zfg_n (zfg_k (zfg_n zfg_e))))))
theorem bB_X0_settle_190 {w : Wd} {F : Nat} (hMA : MAp w) {k190 : Int32 → M Int32} {x : Nat} {a2 : Int32} (hk190 : ∀ (a4 : Int32) (h : Hp) (y : Int32) (h1 : Hp) (c s : Nat), k190 a4 h = some (y, h1, c, s) → V w mX0_settle cX0_settle 6 c s h 190 [some (va_rf (some x)), none, some (.int a2), none, some (.int a4), none] [] (Ro (oI y) h1)) {a4 : Int32} {h h1 : Hp} {y : Int32} {c s : Nat} (H : B_X0_settle_190 w F k190 x a2 a4 h = some (y, h1, c, s)) : V w mX0_settle cX0_settle 6 c s h 190 [some (va_rf (some x)), none, some (.int a2), none, some (.int a4), none] [] (Ro (oI y) h1) := by
  unfold B_X0_settle_190 at H
  refine V_iload4 eX0_settle_190 ?_
  refine V_aload0 eX0_settle_192 (zrf_rf _) ?_
  refine D_gR eX0_settle_193 fq_X0_121_tR H (fun v5 H => ?_)
  refine D_callI (pc' := 199) (st := [.int a4]) H (fun v h' c1 s1 e cb sb k => ?_) (fun v6 h c s H => ?_)
  · obtain ⟨a, hr, ha, hk, e9⟩ := zv1_ok e
    cases hr
    exact V_invokevirtual (k := 30) eX0_settle_196 lmJ2_size q156 q157 rfl rfl q158 ha hk (c_J2_size e9) (hRet_oI _ _) rfl rfl rfl rfl (kOI k)
  refine V_if_icmpge eX0_settle_199 (fun q => ?_) (fun q => ?_)
  · have H := zif_t q H
    refine V_iload2 eX0_settle_238 ?_
    obtain ⟨rfl, rfl, rfl, rfl⟩ := zrt_ok H
    exact V_ireturn eX0_settle_239 rfl ⟨rfl, rfl⟩
  · have H := zif_f q H
    refine V_aload0 eX0_settle_202 (zrf_rf _) ?_
    refine D_gR eX0_settle_203 fq_X0_121_tR H (fun v7 H => ?_)
    refine V_iload4 eX0_settle_206 ?_
    refine D_callR (pc' := 211) (st := []) H (fun v h' c1 s1 e cb sb k => ?_) (fun v8 h c s H => ?_)
    · obtain ⟨a, hr, ha, hk, e9⟩ := zv1_ok e
      cases hr
      exact V_invokevirtual (k := 30) eX0_settle_208 lmJ2_get q160 q161 rfl rfl q162 ha hk (c_J2_get e9) (hRet_oR _ _) rfl rfl rfl rfl (kOR k)
    refine V_astore5 rfl eX0_settle_211 rfl (zrf_rf _) ?_
    refine V_aload5 eX0_settle_213 (zrf_rf _) ?_
    refine D_inst eX0_settle_215 q1442 y_X21_ok n_X21_ok H (fun v9 H => ?_)
    refine V_ifeq eX0_settle_218 (fun q => ?_) (fun q => ?_)
    · have H := zif_t q H
      exact V_fg2 (b_X0_settle_232 hMA hk190 H) (zfg_k (zfg_n (zfg_k (zfg_n (zfg_k (zfg_n zfg_e))))))
    · have H := zif_f q H
      refine V_aload5 eX0_settle_221 (zrf_rf _) ?_
      refine D_cast eX0_settle_223 q1442 y_X21_ok H (fun H => ?_)
      refine V_astore3 rfl eX0_settle_226 rfl (zrf_rf _) ?_
      refine V_aload3 eX0_settle_227 (zrf_rf _) ?_
      refine V_iconst (v := 1) (by decide) eX0_settle_228 ?_
      refine D_pZ eX0_settle_229 fq_X0_489_tZ fn_X0_settle_489 H (fun h H => ?_)
      exact V_fg2 (b_X0_settle_232 hMA hk190 H) (zfg_k (zfg_n (zfg_k (zfg_n (zfg_k (zfg_n zfg_e))))))
theorem b_X0_settle_190 {w : Wd} {F : Nat} (hMA : MAp w) {x : Nat} {a2 : Int32} : ∀ (n : Nat) (a4 : Int32) (h : Hp) (y : Int32) (h1 : Hp) (c s : Nat), d_X0_settle_190 w F x a2 n a4 h = some (y, h1, c, s) → V w mX0_settle cX0_settle 6 c s h 190 [some (va_rf (some x)), none, some (.int a2), none, some (.int a4), none] [] (Ro (oI y) h1) := by
  intro n
  induction n with
  | zero => intro a4 h y h1 c s H; exact zno_no H
  | succ n ih => intro a4 h y h1 c s H; exact bB_X0_settle_190 hMA ih H
theorem bB_X0_settle_130 {w : Wd} {F : Nat} (hMA : MAp w) {k130 : Int32 → M Int32} {x : Nat} {a1 : Option Nat} {a2 : Int32} (hk130 : ∀ (a3 : Int32) (h : Hp) (y : Int32) (h1 : Hp) (c s : Nat), k130 a3 h = some (y, h1, c, s) → V w mX0_settle cX0_settle 6 c s h 130 [some (va_rf (some x)), some (va_rf a1), some (.int a2), some (.int a3), none, none] [] (Ro (oI y) h1)) {a3 : Int32} {h h1 : Hp} {y : Int32} {c s : Nat} (H : B_X0_settle_130 w F k130 x a1 a2 a3 h = some (y, h1, c, s)) : V w mX0_settle cX0_settle 6 c s h 130 [some (va_rf (some x)), some (va_rf a1), some (.int a2), some (.int a3), none, none] [] (Ro (oI y) h1) := by
  unfold B_X0_settle_130 at H
  refine V_iload3 eX0_settle_130 ?_
  refine V_aload0 eX0_settle_131 (zrf_rf _) ?_
  refine D_gI eX0_settle_132 fq_X0_191_tI H (fun v4 H => ?_)
  refine V_if_icmpge eX0_settle_135 (fun q => ?_) (fun q => ?_)
  · have H := zif_t q H
    refine V_iconst (v := 0) (by decide) eX0_settle_187 ?_
    refine V_istore4 rfl eX0_settle_188 rfl ?_
    exact V_fg2 (b_X0_settle_190 hMA _ _ _ _ _ _ _ H) (zfg_k (zfg_n (zfg_k (zfg_n (zfg_k (zfg_n zfg_e))))))
  · have H := zif_f q H
    refine V_aload0 eX0_settle_138 (zrf_rf _) ?_
    refine V_iload3 eX0_settle_139 ?_
    refine D_callR (pc' := 143) (st := []) H (fun v h' c1 s1 e cb sb k => ?_) (fun v5 h c s H => ?_)
    · obtain ⟨a, hr, ha, hk, e9⟩ := zv1_ok e
      cases hr
      exact V_invokevirtual (k := 0) eX0_settle_140 lmX0_schemeBy q1543 q1545 rfl rfl qs44 ha hk (c_X0_schemeBy e9) (hRet_oR _ _) rfl rfl rfl rfl (kOR k)
    refine V_astore4 rfl eX0_settle_143 rfl (zrf_rf _) ?_
    refine V_aload4 eX0_settle_145 (zrf_rf _) ?_
    refine V_dup (zcr _) eX0_settle_147 ?_
    refine D_gL eX0_settle_148 fq_X0_415_tL H (fun v6 H => ?_)
    refine V_aload1 eX0_settle_151 (zrf_rf _) ?_
    refine V_bipush (v := 8) (by decide) eX0_settle_152 ?_
    refine V_iload3 eX0_settle_154 ?_
    refine V_iadd eX0_settle_155 ?_
    refine D_callL (pc' := 159) (st := [.long v6, va_rf v5]) H (fun v h' c1 s1 e cb sb k => ?_) (fun v7 h c s H => ?_)
    · obtain ⟨a, hr, ha, hk, e9⟩ := zv1_ok e
      cases hr
      exact V_invokevirtual (k := 23) eX0_settle_156 lmX23_gets q1539 q1540 rfl rfl q1541 ha hk (c_X23_gets e9) (hRet_oL _ _) rfl rfl rfl (by simp only [List.map_cons, List.map_nil, zcr]; rfl) (kOL k)
    refine V_ladd eX0_settle_159 ?_
    refine D_pL eX0_settle_160 fq_X0_415_tL fn_X0_settle_415 H (fun h H => ?_)
    refine V_aload4 eX0_settle_163 (zrf_rf _) ?_
    refine V_dup (zcr _) eX0_settle_165 ?_
    refine D_gI eX0_settle_166 fq_X0_407_tI H (fun v8 H => ?_)
    refine V_aload1 eX0_settle_169 (zrf_rf _) ?_
    refine V_bipush (v := 8) (by decide) eX0_settle_170 ?_
    refine V_iload3 eX0_settle_172 ?_
    refine V_iadd eX0_settle_173 ?_
    refine D_callI (pc' := 177) (st := [.int v8, va_rf v5]) H (fun v h' c1 s1 e cb sb k => ?_) (fun v9 h c s H => ?_)
    · obtain ⟨a, hr, ha, hk, e9⟩ := zv1_ok e
      cases hr
      exact V_invokevirtual (k := 23) eX0_settle_174 lmX23_falls q1535 q1536 rfl rfl q1537 ha hk (c_X23_falls e9) (hRet_oI _ _) rfl rfl rfl (by simp only [List.map_cons, List.map_nil, zcr]; rfl) (kOI k)
    refine V_ior eX0_settle_177 ?_
    refine D_pZ eX0_settle_178 fq_X0_407_tZ fn_X0_settle_407 H (fun h H => ?_)
    refine V_iinc3 rfl eX0_settle_181 rfl (v := 1) (by decide) ?_
    refine V_goto eX0_settle_184 ?_
    exact V_fg2 (hk130 _ _ _ _ _ _ H) (zfg_k (zfg_k (zfg_k (zfg_k (zfg_n (zfg_n zfg_e))))))
theorem b_X0_settle_130 {w : Wd} {F : Nat} (hMA : MAp w) {x : Nat} {a1 : Option Nat} {a2 : Int32} : ∀ (n : Nat) (a3 : Int32) (h : Hp) (y : Int32) (h1 : Hp) (c s : Nat), d_X0_settle_130 w F x a1 a2 n a3 h = some (y, h1, c, s) → V w mX0_settle cX0_settle 6 c s h 130 [some (va_rf (some x)), some (va_rf a1), some (.int a2), some (.int a3), none, none] [] (Ro (oI y) h1) := by
  intro n
  induction n with
  | zero => intro a3 h y h1 c s H; exact zno_no H
  | succ n ih => intro a3 h y h1 c s H; exact bB_X0_settle_130 hMA ih H
theorem b_X0_settle_122 {w : Wd} {F : Nat} (hMA : MAp w) {k47 : Int32 → M Int32} {x : Nat} {a1 : Option Nat} {a2 : Int32} (hk47 : ∀ (a3 : Int32) (h : Hp) (y : Int32) (h1 : Hp) (c s : Nat), k47 a3 h = some (y, h1, c, s) → V w mX0_settle cX0_settle 6 c s h 47 [some (va_rf (some x)), some (va_rf a1), some (.int a2), some (.int a3), none, none] [] (Ro (oI y) h1)) {a3 : Int32} {h h1 : Hp} {y : Int32} {c s : Nat} (H : d_X0_settle_122 w F k47 x a1 a2 a3 h = some (y, h1, c, s)) : V w mX0_settle cX0_settle 6 c s h 122 [some (va_rf (some x)), some (va_rf a1), some (.int a2), some (.int a3), none, none] [] (Ro (oI y) h1) := by
  unfold d_X0_settle_122 at H
  refine V_iinc3 rfl eX0_settle_122 rfl (v := 1) (by decide) ?_
  refine V_goto eX0_settle_125 ?_
  exact V_fg2 (hk47 _ _ _ _ _ _ H) (zfg_k (zfg_k (zfg_k (zfg_k (zfg_n (zfg_n zfg_e))))))
theorem b_X0_settle_116 {w : Wd} {F : Nat} (hMA : MAp w) {k70 : Int32 → M Int32} {x : Nat} {a1 : Option Nat} {a2 : Int32} {a3 : Int32} (hk70 : ∀ (a4 : Int32) (h : Hp) (y : Int32) (h1 : Hp) (c s : Nat), k70 a4 h = some (y, h1, c, s) → V w mX0_settle cX0_settle 6 c s h 70 [some (va_rf (some x)), some (va_rf a1), some (.int a2), some (.int a3), some (.int a4), none] [] (Ro (oI y) h1)) {a4 : Int32} {h h1 : Hp} {y : Int32} {c s : Nat} (H : d_X0_settle_116 w F k70 x a1 a2 a3 a4 h = some (y, h1, c, s)) : V w mX0_settle cX0_settle 6 c s h 116 [some (va_rf (some x)), some (va_rf a1), some (.int a2), some (.int a3), some (.int a4), none] [] (Ro (oI y) h1) := by
  unfold d_X0_settle_116 at H
  refine V_iinc4 rfl eX0_settle_116 rfl (v := 1) (by decide) ?_
  refine V_goto eX0_settle_119 ?_
  exact V_fg2 (hk70 _ _ _ _ _ _ H) (zfg_k (zfg_k (zfg_k (zfg_k (zfg_k (zfg_n zfg_e))))))
theorem bB_X0_settle_70 {w : Wd} {F : Nat} (hMA : MAp w) {k47 : Int32 → M Int32} {k70 : Int32 → M Int32} {x : Nat} {a1 : Option Nat} {a2 : Int32} {a3 : Int32} (hk47 : ∀ (a3 : Int32) (h : Hp) (y : Int32) (h1 : Hp) (c s : Nat), k47 a3 h = some (y, h1, c, s) → V w mX0_settle cX0_settle 6 c s h 47 [some (va_rf (some x)), some (va_rf a1), some (.int a2), some (.int a3), none, none] [] (Ro (oI y) h1)) (hk70 : ∀ (a4 : Int32) (h : Hp) (y : Int32) (h1 : Hp) (c s : Nat), k70 a4 h = some (y, h1, c, s) → V w mX0_settle cX0_settle 6 c s h 70 [some (va_rf (some x)), some (va_rf a1), some (.int a2), some (.int a3), some (.int a4), none] [] (Ro (oI y) h1)) {a4 : Int32} {h h1 : Hp} {y : Int32} {c s : Nat} (H : B_X0_settle_70 w F k47 k70 x a1 a2 a3 a4 h = some (y, h1, c, s)) : V w mX0_settle cX0_settle 6 c s h 70 [some (va_rf (some x)), some (va_rf a1), some (.int a2), some (.int a3), some (.int a4), none] [] (Ro (oI y) h1) := by
  unfold B_X0_settle_70 at H
  refine V_iload4 eX0_settle_70 ?_
  refine V_aload0 eX0_settle_72 (zrf_rf _) ?_
  refine D_gI eX0_settle_73 fq_X0_191_tI H (fun v7 H => ?_)
  refine V_if_icmpge eX0_settle_76 (fun q => ?_) (fun q => ?_)
  · have H := zif_t q H
    exact V_fg2 (b_X0_settle_122 hMA hk47 H) (zfg_k (zfg_k (zfg_k (zfg_k (zfg_n (zfg_n zfg_e))))))
  · have H := zif_f q H
    refine V_aload1 eX0_settle_79 (zrf_rf _) ?_
    refine V_iload3 eX0_settle_80 ?_
    refine D_callI (pc' := 84) (st := []) H (fun v h' c1 s1 e cb sb k => ?_) (fun v8 h c s H => ?_)
    · obtain ⟨a, hr, ha, hk, e9⟩ := zv1_ok e
      cases hr
      exact V_invokevirtual (k := 23) eX0_settle_81 lmX23_falls q1535 q1536 rfl rfl q1537 ha hk (c_X23_falls e9) (hRet_oI _ _) rfl rfl rfl rfl (kOI k)
    refine V_ifeq eX0_settle_84 (fun q => ?_) (fun q => ?_)
    · have H := zif_t q H
      exact V_fg2 (b_X0_settle_122 hMA hk47 H) (zfg_k (zfg_k (zfg_k (zfg_k (zfg_n (zfg_n zfg_e))))))
    · have H := zif_f q H
      refine V_aload1 eX0_settle_87 (zrf_rf _) ?_
      refine D_gR eX0_settle_88 fq_X0_482_tR H (fun v9 H => ?_)
      refine V_iload3 eX0_settle_91 ?_
      refine D_aaload eX0_settle_92 H (fun v10 H => ?_)
      refine V_bipush (v := 8) (by decide) eX0_settle_93 ?_
      refine V_iload4 eX0_settle_95 ?_
      refine V_iadd eX0_settle_97 ?_
      refine D_laload eX0_settle_98 H (fun v11 H => ?_)
      refine V_lconst (v := 0) (by decide) eX0_settle_99 ?_
      refine V_lcmp eX0_settle_100 ?_
      refine V_ifle eX0_settle_101 (fun q => ?_) (fun q => ?_)
      · have H := zif_t q H
        exact V_fg2 (b_X0_settle_116 hMA hk70 H) (zfg_k (zfg_k (zfg_k (zfg_k (zfg_k (zfg_n zfg_e))))))
      · have H := zif_f q H
        refine V_aload0 eX0_settle_104 (zrf_rf _) ?_
        refine V_iload4 eX0_settle_105 ?_
        refine D_callR (pc' := 110) (st := []) H (fun v h' c1 s1 e cb sb k => ?_) (fun v12 h c s H => ?_)
        · obtain ⟨a, hr, ha, hk, e9⟩ := zv1_ok e
          cases hr
          exact V_invokevirtual (k := 0) eX0_settle_107 lmX0_schemeBy q1543 q1545 rfl rfl qs44 ha hk (c_X0_schemeBy e9) (hRet_oR _ _) rfl rfl rfl rfl (kOR k)
        refine D_gR eX0_settle_110 fq_X0_412_tR H (fun v13 H => ?_)
        refine V_iload3 eX0_settle_113 ?_
        refine V_iconst (v := 0) (by decide) eX0_settle_114 ?_
        refine D_iastore eX0_settle_115 H (fun h H => ?_)
        exact V_fg2 (b_X0_settle_116 hMA hk70 H) (zfg_k (zfg_k (zfg_k (zfg_k (zfg_k (zfg_n zfg_e))))))
theorem b_X0_settle_70 {w : Wd} {F : Nat} (hMA : MAp w) {k47 : Int32 → M Int32} {x : Nat} {a1 : Option Nat} {a2 : Int32} {a3 : Int32} (hk47 : ∀ (a3 : Int32) (h : Hp) (y : Int32) (h1 : Hp) (c s : Nat), k47 a3 h = some (y, h1, c, s) → V w mX0_settle cX0_settle 6 c s h 47 [some (va_rf (some x)), some (va_rf a1), some (.int a2), some (.int a3), none, none] [] (Ro (oI y) h1)) : ∀ (n : Nat) (a4 : Int32) (h : Hp) (y : Int32) (h1 : Hp) (c s : Nat), d_X0_settle_70 w F k47 x a1 a2 a3 n a4 h = some (y, h1, c, s) → V w mX0_settle cX0_settle 6 c s h 70 [some (va_rf (some x)), some (va_rf a1), some (.int a2), some (.int a3), some (.int a4), none] [] (Ro (oI y) h1) := by
  intro n
  induction n with
  | zero => intro a4 h y h1 c s H; exact zno_no H
  | succ n ih => intro a4 h y h1 c s H; exact bB_X0_settle_70 hMA hk47 ih H
theorem bB_X0_settle_47 {w : Wd} {F : Nat} (hMA : MAp w) {k47 : Int32 → M Int32} {x : Nat} {a1 : Option Nat} {a2 : Int32} (hk47 : ∀ (a3 : Int32) (h : Hp) (y : Int32) (h1 : Hp) (c s : Nat), k47 a3 h = some (y, h1, c, s) → V w mX0_settle cX0_settle 6 c s h 47 [some (va_rf (some x)), some (va_rf a1), some (.int a2), some (.int a3), none, none] [] (Ro (oI y) h1)) {a3 : Int32} {h h1 : Hp} {y : Int32} {c s : Nat} (H : B_X0_settle_47 w F k47 x a1 a2 a3 h = some (y, h1, c, s)) : V w mX0_settle cX0_settle 6 c s h 47 [some (va_rf (some x)), some (va_rf a1), some (.int a2), some (.int a3), none, none] [] (Ro (oI y) h1) := by
  unfold B_X0_settle_47 at H
  refine V_iload3 eX0_settle_47 ?_
  refine V_bipush (v := 8) (by decide) eX0_settle_48 ?_
  refine V_if_icmpge eX0_settle_50 (fun q => ?_) (fun q => ?_)
  · have H := zif_t q H
    refine V_iconst (v := 0) (by decide) eX0_settle_128 ?_
    refine V_istore3 rfl eX0_settle_129 rfl ?_
    exact V_fg2 (b_X0_settle_130 hMA _ _ _ _ _ _ _ H) (zfg_k (zfg_k (zfg_k (zfg_k (zfg_n (zfg_n zfg_e))))))
  · have H := zif_f q H
    refine V_aload0 eX0_settle_53 (zrf_rf _) ?_
    refine D_gR eX0_settle_54 fq_X0_60_tR H (fun v4 H => ?_)
    refine V_iload3 eX0_settle_57 ?_
    refine V_dup2 rfl (zcr _) eX0_settle_58 ?_
    refine D_laload eX0_settle_59 H (fun v5 H => ?_)
    refine V_aload1 eX0_settle_60 (zrf_rf _) ?_
    refine V_iload3 eX0_settle_61 ?_
    refine D_callL (pc' := 65) (st := [.long v5, .int a3, va_rf v4]) H (fun v h' c1 s1 e cb sb k => ?_) (fun v6 h c s H => ?_)
    · obtain ⟨a, hr, ha, hk, e9⟩ := zv1_ok e
      cases hr
      exact V_invokevirtual (k := 23) eX0_settle_62 lmX23_gets q1539 q1540 rfl rfl q1541 ha hk (c_X23_gets e9) (hRet_oL _ _) rfl rfl rfl (by simp only [List.map_cons, List.map_nil, zcr]; rfl) (kOL k)
    refine V_ladd eX0_settle_65 ?_
    refine D_lastore eX0_settle_66 H (fun h H => ?_)
    refine V_iconst (v := 0) (by decide) eX0_settle_67 ?_
    refine V_istore4 rfl eX0_settle_68 rfl ?_
    exact V_fg2 (b_X0_settle_70 hMA hk47 _ _ _ _ _ _ _ H) (zfg_k (zfg_k (zfg_k (zfg_k (zfg_k (zfg_n zfg_e))))))
theorem b_X0_settle_47 {w : Wd} {F : Nat} (hMA : MAp w) {x : Nat} {a1 : Option Nat} {a2 : Int32} : ∀ (n : Nat) (a3 : Int32) (h : Hp) (y : Int32) (h1 : Hp) (c s : Nat), d_X0_settle_47 w F x a1 a2 n a3 h = some (y, h1, c, s) → V w mX0_settle cX0_settle 6 c s h 47 [some (va_rf (some x)), some (va_rf a1), some (.int a2), some (.int a3), none, none] [] (Ro (oI y) h1) := by
  intro n
  induction n with
  | zero => intro a3 h y h1 c s H; exact zno_no H
  | succ n ih => intro a3 h y h1 c s H; exact bB_X0_settle_47 hMA ih H
theorem b_X0_settle_37 {w : Wd} {F : Nat} (hMA : MAp w) {k13 : Int32 → Int32 → M Int32} {x : Nat} {a1 : Option Nat} (hk13 : ∀ (a2 : Int32) (a3 : Int32) (h : Hp) (y : Int32) (h1 : Hp) (c s : Nat), k13 a2 a3 h = some (y, h1, c, s) → V w mX0_settle cX0_settle 6 c s h 13 [some (va_rf (some x)), some (va_rf a1), some (.int a2), some (.int a3), none, none] [] (Ro (oI y) h1)) {a3 : Int32} {s0 : Int32} {s1 : Int32} {h h1 : Hp} {y : Int32} {c s : Nat} (H : d_X0_settle_37 w F k13 x a1 a3 s0 s1 h = some (y, h1, c, s)) : V w mX0_settle cX0_settle 6 c s h 37 [some (va_rf (some x)), some (va_rf a1), none, some (.int a3), none, none] [.int s1, .int s0] (Ro (oI y) h1) := by
  unfold d_X0_settle_37 at H
  refine V_ior eX0_settle_37 ?_
  refine V_istore2 (znl_rf _) eX0_settle_38 rfl ?_
  refine V_iinc3 rfl eX0_settle_39 rfl (v := 1) (by decide) ?_
  refine V_goto eX0_settle_42 ?_
  exact V_fg2 (hk13 _ _ _ _ _ _ _ H) (zfg_k (zfg_k (zfg_k (zfg_k (zfg_n (zfg_n zfg_e))))))
theorem bB_X0_settle_13 {w : Wd} {F : Nat} (hMA : MAp w) {k13 : Int32 → Int32 → M Int32} {x : Nat} {a1 : Option Nat} (hk13 : ∀ (a2 : Int32) (a3 : Int32) (h : Hp) (y : Int32) (h1 : Hp) (c s : Nat), k13 a2 a3 h = some (y, h1, c, s) → V w mX0_settle cX0_settle 6 c s h 13 [some (va_rf (some x)), some (va_rf a1), some (.int a2), some (.int a3), none, none] [] (Ro (oI y) h1)) {a2 : Int32} {a3 : Int32} {h h1 : Hp} {y : Int32} {c s : Nat} (H : B_X0_settle_13 w F k13 x a1 a2 a3 h = some (y, h1, c, s)) : V w mX0_settle cX0_settle 6 c s h 13 [some (va_rf (some x)), some (va_rf a1), some (.int a2), some (.int a3), none, none] [] (Ro (oI y) h1) := by
  unfold B_X0_settle_13 at H
  refine V_iload3 eX0_settle_13 ?_
  refine V_aload1 eX0_settle_14 (zrf_rf _) ?_
  refine D_gI eX0_settle_15 fq_X0_474_tI H (fun v3 H => ?_)
  refine V_if_icmpge eX0_settle_18 (fun q => ?_) (fun q => ?_)
  · have H := zif_t q H
    refine V_iconst (v := 0) (by decide) eX0_settle_45 ?_
    refine V_istore3 rfl eX0_settle_46 rfl ?_
    exact V_fg2 (b_X0_settle_47 hMA _ _ _ _ _ _ _ H) (zfg_k (zfg_k (zfg_k (zfg_k (zfg_n (zfg_n zfg_e))))))
  · have H := zif_f q H
    refine V_iload2 eX0_settle_21 ?_
    refine V_aload1 eX0_settle_22 (zrf_rf _) ?_
    refine V_iload3 eX0_settle_23 ?_
    refine D_callI (pc' := 27) (st := [.int a2]) H (fun v h' c1 s1 e cb sb k => ?_) (fun v4 h c s H => ?_)
    · obtain ⟨a, hr, ha, hk, e9⟩ := zv1_ok e
      cases hr
      exact V_invokevirtual (k := 23) eX0_settle_24 lmX23_falls q1535 q1536 rfl rfl q1537 ha hk (c_X23_falls e9) (hRet_oI _ _) rfl rfl rfl rfl (kOI k)
    refine V_ifeq eX0_settle_27 (fun q => ?_) (fun q => ?_)
    · have H := zif_t q H
      refine V_iconst (v := 0) (by decide) eX0_settle_36 ?_
      exact V_fg2 (b_X0_settle_37 hMA hk13 H) (zfg_k (zfg_k (zfg_n (zfg_k (zfg_n (zfg_n zfg_e))))))
    · have H := zif_f q H
      refine V_iconst (v := 1) (by decide) eX0_settle_30 ?_
      refine V_iload3 eX0_settle_31 ?_
      refine V_ishl eX0_settle_32 ?_
      refine V_goto eX0_settle_33 ?_
      exact V_fg2 (b_X0_settle_37 hMA hk13 H) (zfg_k (zfg_k (zfg_n (zfg_k (zfg_n (zfg_n zfg_e))))))
theorem b_X0_settle_13 {w : Wd} {F : Nat} (hMA : MAp w) {x : Nat} {a1 : Option Nat} : ∀ (n : Nat) (a2 : Int32) (a3 : Int32) (h : Hp) (y : Int32) (h1 : Hp) (c s : Nat), d_X0_settle_13 w F x a1 n a2 a3 h = some (y, h1, c, s) → V w mX0_settle cX0_settle 6 c s h 13 [some (va_rf (some x)), some (va_rf a1), some (.int a2), some (.int a3), none, none] [] (Ro (oI y) h1) := by
  intro n
  induction n with
  | zero => intro a2 a3 h y h1 c s H; exact zno_no H
  | succ n ih => intro a2 a3 h y h1 c s H; exact bB_X0_settle_13 hMA ih H
theorem c_X0_settle {w : Wd} {F : Nat} (hMA : MAp w) {x : Nat} {h h1 : Hp} {y : Int32} {c s : Nat} (H : o_X0_settle w F x h = some (y, h1, c, s)) : Con w mX0_settle cX0_settle 6 c s [.ref x] h (Ro (oI y) h1) := by
  unfold o_X0_settle at H
  refine Con.of (ls := [some (va_rf (some x)), none, none, none, none, none]) (by decide +kernel) rfl rfl ?_
  refine D_new (g := 0) eX0_settle_0 nl_X0_471 rfl H (fun n1 h c s H => ?_)
  refine V_dup (zcr _) eX0_settle_3 ?_
  refine V_aload0 eX0_settle_4 (zrf_rf _) ?_
  refine D_callU (pc' := 8) (st := [va_rf n1]) H (fun v h' c1 s1 e cb sb k => ?_) (fun v2 h c s H => ?_)
  · obtain ⟨a, hr, e9⟩ := znn_ok e
    cases hr
    exact V_invokeinit eX0_settle_5 lmX23_init rfl rfl q1491 q1492 (c_X23_init hMA e9) (hRet_oU _ _) rfl rfl rfl (by simp only [List.map_cons, List.map_nil, zcr]; rfl) (kOU k)
  refine V_astore1 (znl_rf _) eX0_settle_8 rfl (zrf_rf _) ?_
  refine V_iconst (v := 0) (by decide) eX0_settle_9 ?_
  refine V_istore2 (znl_rf _) eX0_settle_10 rfl ?_
  refine V_iconst (v := 0) (by decide) eX0_settle_11 ?_
  refine V_istore3 rfl eX0_settle_12 rfl ?_
  exact V_fg2 (b_X0_settle_13 hMA _ _ _ _ _ _ _ _ H) (zfg_k (zfg_k (zfg_k (zfg_k (zfg_n (zfg_n zfg_e))))))
def B_X23_paid_5 (w : Wd) (F : Nat) (k5 : Int64 → Int32 → M Int64) (x : Nat) (a1 : Int32) (a2 : Int64) (a4 : Int32) : M Int64 :=
  zbd (zgI f_X23_many (some x)) fun v1 =>
  zif (v1 ≤ a4) (zrt a2)
  (zbd (zv1 23 (some x) (fun a => o_X23_part w F a a1 a4)) fun v2 =>
  k5 (a2 + v2) (a4 + (1 : Int32)))
def d_X23_paid_5 (w : Wd) (F : Nat) (x : Nat) (a1 : Int32) : Nat → Int64 → Int32 → M Int64
  | 0, _, _ => zno
  | n + 1, a2, a4 => B_X23_paid_5 w F (d_X23_paid_5 w F x a1 n) x a1 a2 a4
def o_X23_paid (w : Wd) (F : Nat) (x : Nat) (a1 : Int32) : M Int64 :=
  d_X23_paid_5 w F x a1 F (0 : Int64) (0 : Int32)
theorem bB_X23_paid_5 {w : Wd} {F : Nat} {k5 : Int64 → Int32 → M Int64} {x : Nat} {a1 : Int32} (hk5 : ∀ (a2 : Int64) (a4 : Int32) (h : Hp) (y : Int64) (h1 : Hp) (c s : Nat), k5 a2 a4 h = some (y, h1, c, s) → V w mX23_paid cX23_paid 1 c s h 5 [some (va_rf (some x)), some (.int a1), some (.long a2), none, some (.int a4)] [] (Ro (oL y) h1)) {a2 : Int64} {a4 : Int32} {h h1 : Hp} {y : Int64} {c s : Nat} (H : B_X23_paid_5 w F k5 x a1 a2 a4 h = some (y, h1, c, s)) : V w mX23_paid cX23_paid 1 c s h 5 [some (va_rf (some x)), some (.int a1), some (.long a2), none, some (.int a4)] [] (Ro (oL y) h1) := by
  unfold B_X23_paid_5 at H
  refine V_iload4 eX23_paid_5 ?_
  refine V_aload0 eX23_paid_7 (zrf_rf _) ?_
  refine D_gI eX23_paid_8 fq_X23_19_tI H (fun v1 H => ?_)
  refine V_if_icmpge eX23_paid_11 (fun q => ?_) (fun q => ?_)
  · have H := zif_t q H
    refine V_lload2 eX23_paid_30 ?_
    obtain ⟨rfl, rfl, rfl, rfl⟩ := zrt_ok H
    exact V_lreturn eX23_paid_31 rfl ⟨rfl, rfl⟩
  · have H := zif_f q H
    refine V_lload2 eX23_paid_14 ?_
    refine V_aload0 eX23_paid_15 (zrf_rf _) ?_
    refine V_iload1 eX23_paid_16 ?_
    refine V_iload4 eX23_paid_17 ?_
    refine D_callL (pc' := 22) (st := [.long a2]) H (fun v h' c1 s1 e cb sb k => ?_) (fun v2 h c s H => ?_)
    · obtain ⟨a, hr, ha, hk, e9⟩ := zv1_ok e
      cases hr
      exact V_invokevirtual (k := 23) eX23_paid_19 lmX23_part q1506 q1508 rfl rfl qs43 ha hk (c_X23_part e9) (hRet_oL _ _) rfl rfl rfl rfl (kOL k)
    refine V_ladd eX23_paid_22 ?_
    refine V_lstore2 rfl eX23_paid_23 rfl ?_
    refine V_iinc4 rfl eX23_paid_24 rfl (v := 1) (by decide) ?_
    refine V_goto eX23_paid_27 ?_
    exact V_fg2 (hk5 _ _ _ _ _ _ _ H) (zfg_k (zfg_k (zfg_k (zfg_n (zfg_k zfg_e)))))
theorem b_X23_paid_5 {w : Wd} {F : Nat} {x : Nat} {a1 : Int32} : ∀ (n : Nat) (a2 : Int64) (a4 : Int32) (h : Hp) (y : Int64) (h1 : Hp) (c s : Nat), d_X23_paid_5 w F x a1 n a2 a4 h = some (y, h1, c, s) → V w mX23_paid cX23_paid 1 c s h 5 [some (va_rf (some x)), some (.int a1), some (.long a2), none, some (.int a4)] [] (Ro (oL y) h1) := by
  intro n
  induction n with
  | zero => intro a2 a4 h y h1 c s H; exact zno_no H
  | succ n ih => intro a2 a4 h y h1 c s H; exact bB_X23_paid_5 ih H
theorem c_X23_paid {w : Wd} {F : Nat} {x : Nat} {a1 : Int32} {h h1 : Hp} {y : Int64} {c s : Nat} (H : o_X23_paid w F x a1 h = some (y, h1, c, s)) : Con w mX23_paid cX23_paid 1 c s [.ref x, .int a1] h (Ro (oL y) h1) := by
  unfold o_X23_paid at H
  refine Con.of (ls := [some (va_rf (some x)), some (.int a1), none, none, none]) (by decide +kernel) rfl rfl ?_
  refine V_lconst (v := 0) (by decide) eX23_paid_0 ?_
  refine V_lstore2 rfl eX23_paid_1 rfl ?_
  refine V_iconst (v := 0) (by decide) eX23_paid_2 ?_
  refine V_istore4 rfl eX23_paid_3 rfl ?_
  exact V_fg2 (b_X23_paid_5 _ _ _ _ _ _ _ _ H) (zfg_k (zfg_k (zfg_k (zfg_n (zfg_k zfg_e)))))
def d_X0_along_69 (w : Wd) (F : Nat) (s0 : Int32) : M Int32 :=
  zrt s0
def d_X0_along_68 (w : Wd) (F : Nat) : M Int32 :=
  d_X0_along_69 w F (-1 : Int32)
def d_X0_along_28 (w : Wd) (F : Nat) (s0 : Int32) : M Int32 :=
  zrt s0
def o_X0_along (w : Wd) (F : Nat) (x : Nat) (a1 : Int32) (a2 : Int32) : M Int32 :=
  zif (a1 = 0) (zbd (o_X0_isHolder w F a2) fun v7 =>
  zif (v7 = 0) (d_X0_along_28 w F (-1 : Int32))
  (zbd (znw 23 0 7) fun n8 =>
  zbd (znn n8 (fun a => o_X23_init w F a (some x))) fun _ =>
  zbd (zv1 23 n8 (fun a => o_X23_paid w F a a2)) fun v10 =>
  d_X0_along_28 w F (v10).toInt32))
  (zif (a1 = (1 : Int32)) (zbd (zv1 0 (some x) (fun a => o_X0_schemeAt w F a a2)) fun v1 =>
  zif (v1 = none) (d_X0_along_68 w F)
  (zbd (znw 23 0 7) fun n2 =>
  zbd (znn n2 (fun a => o_X23_init w F a (some x))) fun _ =>
  zbd (zv1 0 (some x) (fun a => o_X0_schemeAt w F a a2)) fun v4 =>
  zbd (zgI f_X13_place v4) fun v5 =>
  zbd (zv1 23 n2 (fun a => o_X23_paid w F a ((8 : Int32) + v5))) fun v6 =>
  d_X0_along_69 w F (v6).toInt32))
  (d_X0_along_68 w F))
theorem b_X0_along_69 {w : Wd} {F : Nat} (hMA : MAp w) {s0 : Int32} {h h1 : Hp} {y : Int32} {c s : Nat} (H : d_X0_along_69 w F s0 h = some (y, h1, c, s)) : V w mX0_along cX0_along 6 c s h 69 [none, none, none] [.int s0] (Ro (oI y) h1) := by
  unfold d_X0_along_69 at H
  obtain ⟨rfl, rfl, rfl, rfl⟩ := zrt_ok H
  exact V_ireturn eX0_along_69 rfl ⟨rfl, rfl⟩
theorem b_X0_along_68 {w : Wd} {F : Nat} (hMA : MAp w) {h h1 : Hp} {y : Int32} {c s : Nat} (H : d_X0_along_68 w F h = some (y, h1, c, s)) : V w mX0_along cX0_along 6 c s h 68 [none, none, none] [] (Ro (oI y) h1) := by
  unfold d_X0_along_68 at H
  refine V_iconst (v := -1) (by decide) eX0_along_68 ?_
  exact V_fg2 (b_X0_along_69 hMA H) (zfg_n (zfg_n (zfg_n zfg_e)))
theorem b_X0_along_28 {w : Wd} {F : Nat} (hMA : MAp w) {s0 : Int32} {h h1 : Hp} {y : Int32} {c s : Nat} (H : d_X0_along_28 w F s0 h = some (y, h1, c, s)) : V w mX0_along cX0_along 6 c s h 28 [none, none, none] [.int s0] (Ro (oI y) h1) := by
  unfold d_X0_along_28 at H
  obtain ⟨rfl, rfl, rfl, rfl⟩ := zrt_ok H
  exact V_ireturn eX0_along_28 rfl ⟨rfl, rfl⟩
theorem c_X0_along {w : Wd} {F : Nat} (hMA : MAp w) {x : Nat} {a1 : Int32} {a2 : Int32} {h h1 : Hp} {y : Int32} {c s : Nat} (H : o_X0_along w F x a1 a2 h = some (y, h1, c, s)) : Con w mX0_along cX0_along 6 c s [.ref x, .int a1, .int a2] h (Ro (oI y) h1) := by
  unfold o_X0_along at H
  refine Con.of (ls := [some (va_rf (some x)), some (.int a1), some (.int a2)]) (by decide +kernel) rfl rfl ?_
  refine V_iload1 eX0_along_0 ?_
  refine V_ifne eX0_along_1 (fun q => ?_) (fun q => ?_)
  · have H := zif_f q H
    refine V_iload1 eX0_along_29 ?_
    refine V_iconst (v := 1) (by decide) eX0_along_30 ?_
    refine V_if_icmpne eX0_along_31 (fun q => ?_) (fun q => ?_)
    · have H := zif_f q H
      exact V_fg2 (b_X0_along_68 hMA H) (zfg_n (zfg_n (zfg_n zfg_e)))
    · have H := zif_t q H
      refine V_aload0 eX0_along_34 (zrf_rf _) ?_
      refine V_iload2 eX0_along_35 ?_
      refine D_callR (pc' := 39) (st := []) H (fun v h' c1 s1 e cb sb k => ?_) (fun v1 h c s H => ?_)
      · obtain ⟨a, hr, ha, hk, e9⟩ := zv1_ok e
        cases hr
        exact V_invokevirtual (k := 0) eX0_along_36 lmX0_schemeAt q802 q804 rfl rfl qs21 ha hk (c_X0_schemeAt e9) (hRet_oR _ _) rfl rfl rfl rfl (kOR k)
      refine V_ifnull eX0_along_39 (fun q => ?_) (fun a q => ?_)
      · have H := zif_t q H
        exact V_fg2 (b_X0_along_68 hMA H) (zfg_n (zfg_n (zfg_n zfg_e)))
      · have H := zif_f (zsn q) H
        refine D_new (g := 0) eX0_along_42 nl_X0_471 rfl H (fun n2 h c s H => ?_)
        refine V_dup (zcr _) eX0_along_45 ?_
        refine V_aload0 eX0_along_46 (zrf_rf _) ?_
        refine D_callU (pc' := 50) (st := [va_rf n2]) H (fun v h' c1 s1 e cb sb k => ?_) (fun v3 h c s H => ?_)
        · obtain ⟨a, hr, e9⟩ := znn_ok e
          cases hr
          exact V_invokeinit eX0_along_47 lmX23_init rfl rfl q1491 q1492 (c_X23_init hMA e9) (hRet_oU _ _) rfl rfl rfl (by simp only [List.map_cons, List.map_nil, zcr]; rfl) (kOU k)
        refine V_bipush (v := 8) (by decide) eX0_along_50 ?_
        refine V_aload0 eX0_along_52 (zrf_rf _) ?_
        refine V_iload2 eX0_along_53 ?_
        refine D_callR (pc' := 57) (st := [.int (8 : Int32), va_rf n2]) H (fun v h' c1 s1 e cb sb k => ?_) (fun v4 h c s H => ?_)
        · obtain ⟨a, hr, ha, hk, e9⟩ := zv1_ok e
          cases hr
          exact V_invokevirtual (k := 0) eX0_along_54 lmX0_schemeAt q802 q804 rfl rfl qs21 ha hk (c_X0_schemeAt e9) (hRet_oR _ _) rfl rfl rfl (by simp only [List.map_cons, List.map_nil, zcr]; rfl) (kOR k)
        refine D_gI eX0_along_57 fq_X0_470_tI H (fun v5 H => ?_)
        refine V_iadd eX0_along_60 ?_
        refine D_callL (pc' := 64) (st := []) H (fun v h' c1 s1 e cb sb k => ?_) (fun v6 h c s H => ?_)
        · obtain ⟨a, hr, ha, hk, e9⟩ := zv1_ok e
          cases hr
          exact V_invokevirtual (k := 23) eX0_along_61 lmX23_paid q1551 q1552 rfl rfl q1553 ha hk (c_X23_paid e9) (hRet_oL _ _) rfl rfl rfl rfl (kOL k)
        refine V_l2i eX0_along_64 ?_
        refine V_goto eX0_along_65 ?_
        exact V_fg2 (b_X0_along_69 hMA H) (zfg_n (zfg_n (zfg_n zfg_e)))
  · have H := zif_t q H
    refine V_iload2 eX0_along_4 ?_
    refine D_callI (pc' := 8) (st := []) H (fun v h' c1 s1 e cb sb k => ?_) (fun v7 h c s H => ?_)
    · exact V_invokestatic eX0_along_5 lmX0_isHolder q276 q277 (c_X0_isHolder e) (hRet_oI _ _) rfl rfl rfl rfl (kOI k)
    refine V_ifeq eX0_along_8 (fun q => ?_) (fun q => ?_)
    · have H := zif_t q H
      refine V_iconst (v := -1) (by decide) eX0_along_27 ?_
      exact V_fg2 (b_X0_along_28 hMA H) (zfg_n (zfg_n (zfg_n zfg_e)))
    · have H := zif_f q H
      refine D_new (g := 0) eX0_along_11 nl_X0_471 rfl H (fun n8 h c s H => ?_)
      refine V_dup (zcr _) eX0_along_14 ?_
      refine V_aload0 eX0_along_15 (zrf_rf _) ?_
      refine D_callU (pc' := 19) (st := [va_rf n8]) H (fun v h' c1 s1 e cb sb k => ?_) (fun v9 h c s H => ?_)
      · obtain ⟨a, hr, e9⟩ := znn_ok e
        cases hr
        exact V_invokeinit eX0_along_16 lmX23_init rfl rfl q1491 q1492 (c_X23_init hMA e9) (hRet_oU _ _) rfl rfl rfl (by simp only [List.map_cons, List.map_nil, zcr]; rfl) (kOU k)
      refine V_iload2 eX0_along_19 ?_
      refine D_callL (pc' := 23) (st := []) H (fun v h' c1 s1 e cb sb k => ?_) (fun v10 h c s H => ?_)
      · obtain ⟨a, hr, ha, hk, e9⟩ := zv1_ok e
        cases hr
        exact V_invokevirtual (k := 23) eX0_along_20 lmX23_paid q1551 q1552 rfl rfl q1553 ha hk (c_X23_paid e9) (hRet_oL _ _) rfl rfl rfl rfl (kOL k)
      refine V_l2i eX0_along_23 ?_
      refine V_goto eX0_along_24 ?_
      exact V_fg2 (b_X0_along_28 hMA H) (zfg_n (zfg_n (zfg_n zfg_e)))
def f_X18_scheme : Nat → Option Nat := fun k => match k with
  | 15 => some 12
  | 18 => some 12
  | _ => none
theorem fq_X0_495_tR : FQ RX0 495 f_X18_scheme tR := by
  intro k j e
  unfold f_X18_scheme at e
  split at e
  · cases e; exact ⟨fl_X0_495_15, Or.inl ⟨_, rfl⟩⟩
  · cases e; exact ⟨fl_X0_495_18, Or.inl ⟨_, rfl⟩⟩
  · cases e
theorem fq_X0_348_tI : FQ RX0 348 f_X18_left tI := by
  intro k j e
  unfold f_X18_left at e
  split at e
  · cases e; exact ⟨fl_X0_348_18, Or.inl rfl⟩
  · cases e
def f_X0_spades : Nat → Option Nat := fun k => match k with
  | 0 => some 24
  | _ => none
theorem fq_X0_500_tI : FQ RX0 500 f_X0_spades tI := by
  intro k j e
  unfold f_X0_spades at e
  split at e
  · cases e; exact ⟨fl_X0_500_0, Or.inl rfl⟩
  · cases e
theorem fq_X0_500_tN : FQ RX0 500 f_X0_spades tN := by
  intro k j e
  unfold f_X0_spades at e
  split at e
  · cases e; exact ⟨fl_X0_500_0, rfl⟩
  · cases e
theorem fn_X0_digs_500 : FN mX0_digs 500 f_X0_spades := by
  intro k j e
  unfold f_X0_spades at e
  split at e
  · cases e; exact Or.inl rfl
  · cases e
theorem fn_X0_digs_348 : FN mX0_digs 348 f_X18_left := by
  intro k j e
  unfold f_X18_left at e
  split at e
  · cases e; exact Or.inl rfl
  · cases e
theorem fn_X0_digs_415 : FN mX0_digs 415 f_X13_coins := by
  intro k j e
  unfold f_X13_coins at e
  split at e
  · cases e; exact Or.inl rfl
  · cases e; exact Or.inl rfl
  · cases e; exact Or.inl rfl
  · cases e
theorem fq_X0_503_tN : FQ RX0 503 f_X18_doneOn tN := by
  intro k j e
  unfold f_X18_doneOn at e
  split at e
  · cases e; exact ⟨fl_X0_503_18, rfl⟩
  · cases e
theorem fn_X0_digs_503 : FN mX0_digs 503 f_X18_doneOn := by
  intro k j e
  unfold f_X18_doneOn at e
  split at e
  · cases e; exact Or.inl rfl
  · cases e
def d_X0_digs_19 (w : Wd) (F : Nat) : M Unit :=
  zrt ()
def d_X0_digs_109 (w : Wd) (F : Nat) : M Unit :=
  zrt ()
def o_X0_digs (w : Wd) (F : Nat) (x : Nat) (a1 : Option Nat) : M Unit :=
  zbd (zgR f_X18_scheme a1) fun v1 =>
  zbd (zgI f_X18_left a1) fun v2 =>
  zif (v2 = 0) (d_X0_digs_19 w F)
  (zbd (zgI f_X13_fallen v1) fun v3 =>
  zif (v3 = 0) (zbd (zgI f_X0_men (some x)) fun v4 =>
  zbd (zgI f_X18_left a1) fun v5 =>
  zbd (o_J6_min_2 w F ((3 : Int64) * (v4).toInt64) (v5).toInt64) fun v6 =>
  zbd (zgL f_X13_coins v1) fun v7 =>
  zbd (o_J6_min_2 w F v6 (v7 / (2 : Int64))) fun v8 =>
  zbd (zgI f_X0_spades (some x)) fun v9 =>
  zbd (o_J6_min w F (v8).toInt32 v9) fun v10 =>
  zbd (zgI f_X0_spades (some x)) fun v11 =>
  zbd (zpI f_X0_spades (some x) (v11 - v10)) fun _ =>
  zbd (zgI f_X18_left a1) fun v12 =>
  zbd (zpI f_X18_left a1 (v12 - v10)) fun _ =>
  zbd (zgL f_X13_coins v1) fun v13 =>
  zbd (zpL f_X13_coins v1 (v13 - ((2 : Int64) * (v10).toInt64))) fun _ =>
  zbd (zgI f_X18_left a1) fun v14 =>
  zif (v14 = 0) (zbd (zgI f_X0_today (some x)) fun v15 =>
  zbd (zpI f_X18_doneOn a1 v15) fun _ =>
  d_X0_digs_109 w F)
  (d_X0_digs_109 w F))
  (d_X0_digs_19 w F))
theorem b_X0_digs_19 {w : Wd} {F : Nat} {h h1 : Hp} {y : Unit} {c s : Nat} (H : d_X0_digs_19 w F h = some (y, h1, c, s)) : V w mX0_digs cX0_digs 1 c s h 19 [none, none, none, none] [] (Ro (oU y) h1) := by
  unfold d_X0_digs_19 at H
  obtain ⟨rfl, rfl, rfl, rfl⟩ := zrt_ok H
  exact V_return (x := ()) eX0_digs_19 rfl ⟨rfl, rfl⟩
theorem b_X0_digs_109 {w : Wd} {F : Nat} {h h1 : Hp} {y : Unit} {c s : Nat} (H : d_X0_digs_109 w F h = some (y, h1, c, s)) : V w mX0_digs cX0_digs 1 c s h 109 [none, none, none, none] [] (Ro (oU y) h1) := by
  unfold d_X0_digs_109 at H
  obtain ⟨rfl, rfl, rfl, rfl⟩ := zrt_ok H
  exact V_return (x := ()) eX0_digs_109 rfl ⟨rfl, rfl⟩
theorem c_X0_digs {w : Wd} {F : Nat} {x : Nat} {a1 : Option Nat} {h h1 : Hp} {y : Unit} {c s : Nat} (H : o_X0_digs w F x a1 h = some (y, h1, c, s)) : Con w mX0_digs cX0_digs 1 c s [.ref x, va_rf a1] h (Ro (oU y) h1) := by
  unfold o_X0_digs at H
  refine Con.of (ls := [some (va_rf (some x)), some (va_rf a1), none, none]) (by decide +kernel) (by simp only [zsl_r, zsl_i, zsl_l, zsl_n, zsl_a]; rfl) (by simp only [zar_r, zar_i, zar_l, zar_n, zar_a]; rfl) ?_
  refine V_aload1 eX0_digs_0 (zrf_rf _) ?_
  refine D_gR eX0_digs_1 fq_X0_495_tR H (fun v1 H => ?_)
  refine V_astore2 (znl_rf _) eX0_digs_4 rfl (zrf_rf _) ?_
  refine V_aload1 eX0_digs_5 (zrf_rf _) ?_
  refine D_gI eX0_digs_6 fq_X0_348_tI H (fun v2 H => ?_)
  refine V_ifeq eX0_digs_9 (fun q => ?_) (fun q => ?_)
  · have H := zif_t q H
    exact V_fg2 (b_X0_digs_19 H) (zfg_n (zfg_n (zfg_n (zfg_n zfg_e))))
  · have H := zif_f q H
    refine V_aload2 eX0_digs_12 (zrf_rf _) ?_
    refine D_gI eX0_digs_13 fq_X0_407_tI H (fun v3 H => ?_)
    refine V_ifeq eX0_digs_16 (fun q => ?_) (fun q => ?_)
    · have H := zif_t q H
      refine V_ldc2_w (v := 3) eX0_digs_20 q1567 ?_
      refine V_aload0 eX0_digs_23 (zrf_rf _) ?_
      refine D_gI eX0_digs_24 fq_X0_64_tI H (fun v4 H => ?_)
      refine V_i2l eX0_digs_27 ?_
      refine V_lmul eX0_digs_28 ?_
      refine V_aload1 eX0_digs_29 (zrf_rf _) ?_
      refine D_gI eX0_digs_30 fq_X0_348_tI H (fun v5 H => ?_)
      refine V_i2l eX0_digs_33 ?_
      refine D_callL (pc' := 37) (st := []) H (fun v h' c1 s1 e cb sb k => ?_) (fun v6 h c s H => ?_)
      · exact V_invokestatic eX0_digs_34 lmJ6_min_2 q1379 q1380 (c_J6_min_2 e) (hRet_oL _ _) rfl rfl rfl rfl (kOL k)
      refine V_aload2 eX0_digs_37 (zrf_rf _) ?_
      refine D_gL eX0_digs_38 fq_X0_415_tL H (fun v7 H => ?_)
      refine V_ldc2_w (v := 2) eX0_digs_41 q1568 ?_
      refine V_ldiv (by decide) eX0_digs_44 ?_
      refine D_callL (pc' := 48) (st := []) H (fun v h' c1 s1 e cb sb k => ?_) (fun v8 h c s H => ?_)
      · exact V_invokestatic eX0_digs_45 lmJ6_min_2 q1379 q1380 (c_J6_min_2 e) (hRet_oL _ _) rfl rfl rfl rfl (kOL k)
      refine V_l2i eX0_digs_48 ?_
      refine V_istore3 (znl_rf _) eX0_digs_49 rfl ?_
      refine V_iload3 eX0_digs_50 ?_
      refine V_aload0 eX0_digs_51 (zrf_rf _) ?_
      refine D_gI eX0_digs_52 fq_X0_500_tI H (fun v9 H => ?_)
      refine D_callI (pc' := 58) (st := []) H (fun v h' c1 s1 e cb sb k => ?_) (fun v10 h c s H => ?_)
      · exact V_invokestatic eX0_digs_55 lmJ6_min q935 q265 (c_J6_min e) (hRet_oI _ _) rfl rfl rfl rfl (kOI k)
      refine V_istore3 (znl_rf _) eX0_digs_58 rfl ?_
      refine V_aload0 eX0_digs_59 (zrf_rf _) ?_
      refine V_dup (zcr _) eX0_digs_60 ?_
      refine D_gI eX0_digs_61 fq_X0_500_tI H (fun v11 H => ?_)
      refine V_iload3 eX0_digs_64 ?_
      refine V_isub eX0_digs_65 ?_
      refine D_pI eX0_digs_66 fq_X0_500_tN fn_X0_digs_500 H (fun h H => ?_)
      refine V_aload1 eX0_digs_69 (zrf_rf _) ?_
      refine V_dup (zcr _) eX0_digs_70 ?_
      refine D_gI eX0_digs_71 fq_X0_348_tI H (fun v12 H => ?_)
      refine V_iload3 eX0_digs_74 ?_
      refine V_isub eX0_digs_75 ?_
      refine D_pI eX0_digs_76 fq_X0_348_tN fn_X0_digs_348 H (fun h H => ?_)
      refine V_aload2 eX0_digs_79 (zrf_rf _) ?_
      refine V_dup (zcr _) eX0_digs_80 ?_
      refine D_gL eX0_digs_81 fq_X0_415_tL H (fun v13 H => ?_)
      refine V_ldc2_w (v := 2) eX0_digs_84 q1568 ?_
      refine V_iload3 eX0_digs_87 ?_
      refine V_i2l eX0_digs_88 ?_
      refine V_lmul eX0_digs_89 ?_
      refine V_lsub eX0_digs_90 ?_
      refine D_pL eX0_digs_91 fq_X0_415_tL fn_X0_digs_415 H (fun h H => ?_)
      refine V_aload1 eX0_digs_94 (zrf_rf _) ?_
      refine D_gI eX0_digs_95 fq_X0_348_tI H (fun v14 H => ?_)
      refine V_ifne eX0_digs_98 (fun q => ?_) (fun q => ?_)
      · have H := zif_f q H
        exact V_fg2 (b_X0_digs_109 H) (zfg_n (zfg_n (zfg_n (zfg_n zfg_e))))
      · have H := zif_t q H
        refine V_aload1 eX0_digs_101 (zrf_rf _) ?_
        refine V_aload0 eX0_digs_102 (zrf_rf _) ?_
        refine D_gI eX0_digs_103 fq_X0_194_tI H (fun v15 H => ?_)
        refine D_pI eX0_digs_106 fq_X0_503_tN fn_X0_digs_503 H (fun h H => ?_)
        exact V_fg2 (b_X0_digs_109 H) (zfg_n (zfg_n (zfg_n (zfg_n zfg_e))))
    · have H := zif_f q H
      exact V_fg2 (b_X0_digs_19 H) (zfg_n (zfg_n (zfg_n (zfg_n zfg_e))))
theorem fn_X0_goDay_500 : FN mX0_goDay 500 f_X0_spades := by
  intro k j e
  unfold f_X0_spades at e
  split at e
  · cases e; exact Or.inl rfl
  · cases e
theorem fq_X0_194_tN : FQ RX0 194 f_X0_today tN := by
  intro k j e
  unfold f_X0_today at e
  split at e
  · cases e; exact ⟨fl_X0_194_0, rfl⟩
  · cases e
theorem fn_X0_goDay_194 : FN mX0_goDay 194 f_X0_today := by
  intro k j e
  unfold f_X0_today at e
  split at e
  · cases e; exact Or.inl rfl
  · cases e
def d_X0_goDay_133 (w : Wd) (F : Nat) (k74 : Int32 → M Unit) (x : Nat) (a1 : Option Nat) (a2 : Int32) (s0 : Option Nat) (s1 : Int32) (s2 : Int32) : M Unit :=
  zbd (zsI 0 s0 s1 s2) fun _ =>
  k74 (a2 + (1 : Int32))
def d_X0_goDay_132 (w : Wd) (F : Nat) (k74 : Int32 → M Unit) (x : Nat) (a1 : Option Nat) (a2 : Int32) (s0 : Option Nat) (s1 : Int32) : M Unit :=
  d_X0_goDay_133 w F k74 x a1 a2 s0 s1 (-1 : Int32)
def B_X0_goDay_74 (w : Wd) (F : Nat) (k74 : Int32 → M Unit) (x : Nat) (a1 : Option Nat) (a2 : Int32) : M Unit :=
  zbd (zal a1) fun v7 =>
  zif (v7 ≤ a2) (zbd (zgR f_X0_known (some x)) fun v8 =>
  zbd (zgI f_X0_today (some x)) fun v9 =>
  zbd (zsR 8 v8 v9 a1) fun _ =>
  zbd (zgI f_X0_today (some x)) fun v10 =>
  zbd (zpI f_X0_today (some x) (v10 + (1 : Int32))) fun _ =>
  zrt ())
  (zbd (zv1 0 (some x) (fun a => o_X0_schemeAt w F a a2)) fun v11 =>
  zif (v11 = none) (zbd (zv1 0 (some x) (fun a => o_X0_billAt w F a a2)) fun v12 =>
  zif (v12 = none) (d_X0_goDay_132 w F k74 x a1 a2 a1 a2)
  (zbd (zv1 0 (some x) (fun a => o_X0_billAt w F a a2)) fun v13 =>
  zbd (zgI f_X18_granted v13) fun v14 =>
  zif (v14 = 0) (d_X0_goDay_132 w F k74 x a1 a2 a1 a2)
  (zbd (zv1 0 (some x) (fun a => o_X0_billAt w F a a2)) fun v15 =>
  zbd (zgI f_X18_left v15) fun v16 =>
  d_X0_goDay_133 w F k74 x a1 a2 a1 a2 v16)))
  (zbd (zv1 0 (some x) (fun a => o_X0_schemeAt w F a a2)) fun v17 =>
  zbd (zgL f_X13_coins v17) fun v18 =>
  d_X0_goDay_133 w F k74 x a1 a2 a1 a2 (v18).toInt32))
def d_X0_goDay_74 (w : Wd) (F : Nat) (x : Nat) (a1 : Option Nat) : Nat → Int32 → M Unit
  | 0, _ => zno
  | n + 1, a2 => B_X0_goDay_74 w F (d_X0_goDay_74 w F x a1 n) x a1 a2
def d_X0_goDay_56 (w : Wd) (F : Nat) (k12 : Int32 → M Unit) (x : Nat) (a2 : Int32) : M Unit :=
  k12 (a2 + (1 : Int32))
def B_X0_goDay_12 (w : Wd) (F : Nat) (k12 : Int32 → M Unit) (x : Nat) (a2 : Int32) : M Unit :=
  zbd (zgR f_X0_papers (some x)) fun v2 =>
  zbd (zv1 30 v2 (fun a => o_J2_size w F a)) fun v3 =>
  zif (v3 ≤ a2) (zbd (zgR f_X0_papers (some x)) fun v4 =>
  zbd (zv1 30 v4 (fun a => o_J2_size w F a)) fun v5 =>
  zbd (znA 100 13 v5) fun n6 =>
  d_X0_goDay_74 w F x n6 F (0 : Int32))
  (zbd (zgR f_X0_papers (some x)) fun v7 =>
  zbd (zv1 30 v7 (fun a => o_J2_get w F a a2)) fun v8 =>
  zbd (zio y_X18 n_X18 v8) fun v9 =>
  zif (v9 = 0) (d_X0_goDay_56 w F k12 x a2)
  (zbd (zcc y_X18 v8) fun _ =>
  zbd (zgI f_X18_granted v8) fun v10 =>
  zif (v10 = 0) (d_X0_goDay_56 w F k12 x a2)
  (zbd (zv1 0 (some x) (fun a => o_X0_digs w F a v8)) fun _ =>
  d_X0_goDay_56 w F k12 x a2)))
def d_X0_goDay_12 (w : Wd) (F : Nat) (x : Nat) : Nat → Int32 → M Unit
  | 0, _ => zno
  | n + 1, a2 => B_X0_goDay_12 w F (d_X0_goDay_12 w F x n) x a2
def o_X0_goDay (w : Wd) (F : Nat) (x : Nat) : M Unit :=
  zbd (zgI f_X0_men (some x)) fun v1 =>
  zbd (zpI f_X0_spades (some x) ((3 : Int32) * v1)) fun _ =>
  d_X0_goDay_12 w F x F (0 : Int32)
theorem b_X0_goDay_133 {w : Wd} {F : Nat} {k74 : Int32 → M Unit} {x : Nat} {a1 : Option Nat} (hk74 : ∀ (a2 : Int32) (h : Hp) (y : Unit) (h1 : Hp) (c s : Nat), k74 a2 h = some (y, h1, c, s) → V w mX0_goDay cX0_goDay 5 c s h 74 [some (va_rf (some x)), some (va_rf a1), some (.int a2), none] [] (Ro (oU y) h1)) {a2 : Int32} {s0 : Option Nat} {s1 : Int32} {s2 : Int32} {h h1 : Hp} {y : Unit} {c s : Nat} (H : d_X0_goDay_133 w F k74 x a1 a2 s0 s1 s2 h = some (y, h1, c, s)) : V w mX0_goDay cX0_goDay 5 c s h 133 [some (va_rf (some x)), some (va_rf a1), some (.int a2), none] [.int s2, .int s1, va_rf s0] (Ro (oU y) h1) := by
  unfold d_X0_goDay_133 at H
  refine D_iastore eX0_goDay_133 H (fun h H => ?_)
  refine V_iinc2 (znl_rf _) eX0_goDay_134 rfl (v := 1) (by decide) ?_
  refine V_goto eX0_goDay_137 ?_
  exact V_fg2 (hk74 _ _ _ _ _ _ H) (zfg_k (zfg_k (zfg_k (zfg_n zfg_e))))
theorem b_X0_goDay_132 {w : Wd} {F : Nat} {k74 : Int32 → M Unit} {x : Nat} {a1 : Option Nat} (hk74 : ∀ (a2 : Int32) (h : Hp) (y : Unit) (h1 : Hp) (c s : Nat), k74 a2 h = some (y, h1, c, s) → V w mX0_goDay cX0_goDay 5 c s h 74 [some (va_rf (some x)), some (va_rf a1), some (.int a2), none] [] (Ro (oU y) h1)) {a2 : Int32} {s0 : Option Nat} {s1 : Int32} {h h1 : Hp} {y : Unit} {c s : Nat} (H : d_X0_goDay_132 w F k74 x a1 a2 s0 s1 h = some (y, h1, c, s)) : V w mX0_goDay cX0_goDay 5 c s h 132 [some (va_rf (some x)), some (va_rf a1), some (.int a2), none] [.int s1, va_rf s0] (Ro (oU y) h1) := by
  unfold d_X0_goDay_132 at H
  refine V_iconst (v := -1) (by decide) eX0_goDay_132 ?_
  exact V_fg2 (b_X0_goDay_133 hk74 H) (zfg_k (zfg_k (zfg_k (zfg_n zfg_e))))
theorem bB_X0_goDay_74 {w : Wd} {F : Nat} {k74 : Int32 → M Unit} {x : Nat} {a1 : Option Nat} (hk74 : ∀ (a2 : Int32) (h : Hp) (y : Unit) (h1 : Hp) (c s : Nat), k74 a2 h = some (y, h1, c, s) → V w mX0_goDay cX0_goDay 5 c s h 74 [some (va_rf (some x)), some (va_rf a1), some (.int a2), none] [] (Ro (oU y) h1)) {a2 : Int32} {h h1 : Hp} {y : Unit} {c s : Nat} (H : B_X0_goDay_74 w F k74 x a1 a2 h = some (y, h1, c, s)) : V w mX0_goDay cX0_goDay 5 c s h 74 [some (va_rf (some x)), some (va_rf a1), some (.int a2), none] [] (Ro (oU y) h1) := by
  unfold B_X0_goDay_74 at H
  refine V_iload2 eX0_goDay_74 ?_
  refine V_aload1 eX0_goDay_75 (zrf_rf _) ?_
  refine D_arraylength eX0_goDay_76 H (fun v7 H => ?_)
  refine V_if_icmpge eX0_goDay_77 (fun q => ?_) (fun q => ?_)
  · have H := zif_t q H
    refine V_aload0 eX0_goDay_140 (zrf_rf _) ?_
    refine D_gR eX0_goDay_141 fq_X0_173_tR H (fun v8 H => ?_)
    refine V_aload0 eX0_goDay_144 (zrf_rf _) ?_
    refine D_gI eX0_goDay_145 fq_X0_194_tI H (fun v9 H => ?_)
    refine V_aload1 eX0_goDay_148 (zrf_rf _) ?_
    refine D_aastore eX0_goDay_149 H (fun h H => ?_)
    refine V_aload0 eX0_goDay_150 (zrf_rf _) ?_
    refine V_dup (zcr _) eX0_goDay_151 ?_
    refine D_gI eX0_goDay_152 fq_X0_194_tI H (fun v10 H => ?_)
    refine V_iconst (v := 1) (by decide) eX0_goDay_155 ?_
    refine V_iadd eX0_goDay_156 ?_
    refine D_pI eX0_goDay_157 fq_X0_194_tN fn_X0_goDay_194 H (fun h H => ?_)
    obtain ⟨rfl, rfl, rfl, rfl⟩ := zrt_ok H
    exact V_return (x := ()) eX0_goDay_160 rfl ⟨rfl, rfl⟩
  · have H := zif_f q H
    refine V_aload1 eX0_goDay_80 (zrf_rf _) ?_
    refine V_iload2 eX0_goDay_81 ?_
    refine V_aload0 eX0_goDay_82 (zrf_rf _) ?_
    refine V_iload2 eX0_goDay_83 ?_
    refine D_callR (pc' := 87) (st := [.int a2, va_rf a1]) H (fun v h' c1 s1 e cb sb k => ?_) (fun v11 h c s H => ?_)
    · obtain ⟨a, hr, ha, hk, e9⟩ := zv1_ok e
      cases hr
      exact V_invokevirtual (k := 0) eX0_goDay_84 lmX0_schemeAt q802 q804 rfl rfl qs21 ha hk (c_X0_schemeAt e9) (hRet_oR _ _) rfl rfl rfl (by simp only [List.map_cons, List.map_nil, zcr]; rfl) (kOR k)
    refine V_ifnull eX0_goDay_87 (fun q => ?_) (fun a q => ?_)
    · have H := zif_t q H
      refine V_aload0 eX0_goDay_102 (zrf_rf _) ?_
      refine V_iload2 eX0_goDay_103 ?_
      refine D_callR (pc' := 107) (st := [.int a2, va_rf a1]) H (fun v h' c1 s1 e cb sb k => ?_) (fun v12 h c s H => ?_)
      · obtain ⟨a, hr, ha, hk, e9⟩ := zv1_ok e
        cases hr
        exact V_invokevirtual (k := 0) eX0_goDay_104 lmX0_billAt q1060 q1062 rfl rfl qs33 ha hk (c_X0_billAt e9) (hRet_oR _ _) rfl rfl rfl (by simp only [List.map_cons, List.map_nil, zcr]; rfl) (kOR k)
      refine V_ifnull eX0_goDay_107 (fun q => ?_) (fun a q => ?_)
      · have H := zif_t q H
        exact V_fg2 (b_X0_goDay_132 hk74 H) (zfg_k (zfg_k (zfg_k (zfg_n zfg_e))))
      · have H := zif_f (zsn q) H
        refine V_aload0 eX0_goDay_110 (zrf_rf _) ?_
        refine V_iload2 eX0_goDay_111 ?_
        refine D_callR (pc' := 115) (st := [.int a2, va_rf a1]) H (fun v h' c1 s1 e cb sb k => ?_) (fun v13 h c s H => ?_)
        · obtain ⟨a, hr, ha, hk, e9⟩ := zv1_ok e
          cases hr
          exact V_invokevirtual (k := 0) eX0_goDay_112 lmX0_billAt q1060 q1062 rfl rfl qs33 ha hk (c_X0_billAt e9) (hRet_oR _ _) rfl rfl rfl (by simp only [List.map_cons, List.map_nil, zcr]; rfl) (kOR k)
        refine D_gI eX0_goDay_115 fq_X0_344_tI H (fun v14 H => ?_)
        refine V_ifeq eX0_goDay_118 (fun q => ?_) (fun q => ?_)
        · have H := zif_t q H
          exact V_fg2 (b_X0_goDay_132 hk74 H) (zfg_k (zfg_k (zfg_k (zfg_n zfg_e))))
        · have H := zif_f q H
          refine V_aload0 eX0_goDay_121 (zrf_rf _) ?_
          refine V_iload2 eX0_goDay_122 ?_
          refine D_callR (pc' := 126) (st := [.int a2, va_rf a1]) H (fun v h' c1 s1 e cb sb k => ?_) (fun v15 h c s H => ?_)
          · obtain ⟨a, hr, ha, hk, e9⟩ := zv1_ok e
            cases hr
            exact V_invokevirtual (k := 0) eX0_goDay_123 lmX0_billAt q1060 q1062 rfl rfl qs33 ha hk (c_X0_billAt e9) (hRet_oR _ _) rfl rfl rfl (by simp only [List.map_cons, List.map_nil, zcr]; rfl) (kOR k)
          refine D_gI eX0_goDay_126 fq_X0_348_tI H (fun v16 H => ?_)
          refine V_goto eX0_goDay_129 ?_
          exact V_fg2 (b_X0_goDay_133 hk74 H) (zfg_k (zfg_k (zfg_k (zfg_n zfg_e))))
    · have H := zif_f (zsn q) H
      refine V_aload0 eX0_goDay_90 (zrf_rf _) ?_
      refine V_iload2 eX0_goDay_91 ?_
      refine D_callR (pc' := 95) (st := [.int a2, va_rf a1]) H (fun v h' c1 s1 e cb sb k => ?_) (fun v17 h c s H => ?_)
      · obtain ⟨a, hr, ha, hk, e9⟩ := zv1_ok e
        cases hr
        exact V_invokevirtual (k := 0) eX0_goDay_92 lmX0_schemeAt q802 q804 rfl rfl qs21 ha hk (c_X0_schemeAt e9) (hRet_oR _ _) rfl rfl rfl (by simp only [List.map_cons, List.map_nil, zcr]; rfl) (kOR k)
      refine D_gL eX0_goDay_95 fq_X0_415_tL H (fun v18 H => ?_)
      refine V_l2i eX0_goDay_98 ?_
      refine V_goto eX0_goDay_99 ?_
      exact V_fg2 (b_X0_goDay_133 hk74 H) (zfg_k (zfg_k (zfg_k (zfg_n zfg_e))))
theorem b_X0_goDay_74 {w : Wd} {F : Nat} {x : Nat} {a1 : Option Nat} : ∀ (n : Nat) (a2 : Int32) (h : Hp) (y : Unit) (h1 : Hp) (c s : Nat), d_X0_goDay_74 w F x a1 n a2 h = some (y, h1, c, s) → V w mX0_goDay cX0_goDay 5 c s h 74 [some (va_rf (some x)), some (va_rf a1), some (.int a2), none] [] (Ro (oU y) h1) := by
  intro n
  induction n with
  | zero => intro a2 h y h1 c s H; exact zno_no H
  | succ n ih => intro a2 h y h1 c s H; exact bB_X0_goDay_74 ih H
theorem b_X0_goDay_56 {w : Wd} {F : Nat} {k12 : Int32 → M Unit} {x : Nat} (hk12 : ∀ (a2 : Int32) (h : Hp) (y : Unit) (h1 : Hp) (c s : Nat), k12 a2 h = some (y, h1, c, s) → V w mX0_goDay cX0_goDay 5 c s h 12 [some (va_rf (some x)), none, some (.int a2), none] [] (Ro (oU y) h1)) {a2 : Int32} {h h1 : Hp} {y : Unit} {c s : Nat} (H : d_X0_goDay_56 w F k12 x a2 h = some (y, h1, c, s)) : V w mX0_goDay cX0_goDay 5 c s h 56 [some (va_rf (some x)), none, some (.int a2), none] [] (Ro (oU y) h1) := by
  unfold d_X0_goDay_56 at H
  refine V_iinc2 rfl eX0_goDay_56 rfl (v := 1) (by decide) ?_
  refine V_goto eX0_goDay_59 ?_
  exact V_fg2 (hk12 _ _ _ _ _ _ H) (zfg_k (zfg_n (zfg_k (zfg_n zfg_e))))
theorem bB_X0_goDay_12 {w : Wd} {F : Nat} {k12 : Int32 → M Unit} {x : Nat} (hk12 : ∀ (a2 : Int32) (h : Hp) (y : Unit) (h1 : Hp) (c s : Nat), k12 a2 h = some (y, h1, c, s) → V w mX0_goDay cX0_goDay 5 c s h 12 [some (va_rf (some x)), none, some (.int a2), none] [] (Ro (oU y) h1)) {a2 : Int32} {h h1 : Hp} {y : Unit} {c s : Nat} (H : B_X0_goDay_12 w F k12 x a2 h = some (y, h1, c, s)) : V w mX0_goDay cX0_goDay 5 c s h 12 [some (va_rf (some x)), none, some (.int a2), none] [] (Ro (oU y) h1) := by
  unfold B_X0_goDay_12 at H
  refine V_iload2 eX0_goDay_12 ?_
  refine V_aload0 eX0_goDay_13 (zrf_rf _) ?_
  refine D_gR eX0_goDay_14 fq_X0_121_tR H (fun v2 H => ?_)
  refine D_callI (pc' := 20) (st := [.int a2]) H (fun v h' c1 s1 e cb sb k => ?_) (fun v3 h c s H => ?_)
  · obtain ⟨a, hr, ha, hk, e9⟩ := zv1_ok e
    cases hr
    exact V_invokevirtual (k := 30) eX0_goDay_17 lmJ2_size q156 q157 rfl rfl q158 ha hk (c_J2_size e9) (hRet_oI _ _) rfl rfl rfl rfl (kOI k)
  refine V_if_icmpge eX0_goDay_20 (fun q => ?_) (fun q => ?_)
  · have H := zif_t q H
    refine V_aload0 eX0_goDay_62 (zrf_rf _) ?_
    refine D_gR eX0_goDay_63 fq_X0_121_tR H (fun v4 H => ?_)
    refine D_callI (pc' := 69) (st := []) H (fun v h' c1 s1 e cb sb k => ?_) (fun v5 h c s H => ?_)
    · obtain ⟨a, hr, ha, hk, e9⟩ := zv1_ok e
      cases hr
      exact V_invokevirtual (k := 30) eX0_goDay_66 lmJ2_size q156 q157 rfl rfl q158 ha hk (c_J2_size e9) (hRet_oI _ _) rfl rfl rfl rfl (kOI k)
    refine D_newarray (g := 13) (κ := 100) (cT := 0) eX0_goDay_69 rfl rfl rfl q585 rfl (by decide) H (fun n6 h c s H => ?_)
    refine V_astore1 (znl_rf _) eX0_goDay_71 rfl (zrf_rf _) ?_
    refine V_iconst (v := 0) (by decide) eX0_goDay_72 ?_
    refine V_istore2 (znl_rf _) eX0_goDay_73 rfl ?_
    exact V_fg2 (b_X0_goDay_74 _ _ _ _ _ _ _ H) (zfg_k (zfg_k (zfg_k (zfg_n zfg_e))))
  · have H := zif_f q H
    refine V_aload0 eX0_goDay_23 (zrf_rf _) ?_
    refine D_gR eX0_goDay_24 fq_X0_121_tR H (fun v7 H => ?_)
    refine V_iload2 eX0_goDay_27 ?_
    refine D_callR (pc' := 31) (st := []) H (fun v h' c1 s1 e cb sb k => ?_) (fun v8 h c s H => ?_)
    · obtain ⟨a, hr, ha, hk, e9⟩ := zv1_ok e
      cases hr
      exact V_invokevirtual (k := 30) eX0_goDay_28 lmJ2_get q160 q161 rfl rfl q162 ha hk (c_J2_get e9) (hRet_oR _ _) rfl rfl rfl rfl (kOR k)
    refine V_astore3 rfl eX0_goDay_31 rfl (zrf_rf _) ?_
    refine V_aload3 eX0_goDay_32 (zrf_rf _) ?_
    refine D_inst eX0_goDay_33 q1014 y_X18_ok n_X18_ok H (fun v9 H => ?_)
    refine V_ifeq eX0_goDay_36 (fun q => ?_) (fun q => ?_)
    · have H := zif_t q H
      exact V_fg2 (b_X0_goDay_56 hk12 H) (zfg_k (zfg_n (zfg_k (zfg_n zfg_e))))
    · have H := zif_f q H
      refine V_aload3 eX0_goDay_39 (zrf_rf _) ?_
      refine D_cast eX0_goDay_40 q1014 y_X18_ok H (fun H => ?_)
      refine V_astore1 (znl_rf _) eX0_goDay_43 rfl (zrf_rf _) ?_
      refine V_aload1 eX0_goDay_44 (zrf_rf _) ?_
      refine D_gI eX0_goDay_45 fq_X0_344_tI H (fun v10 H => ?_)
      refine V_ifeq eX0_goDay_48 (fun q => ?_) (fun q => ?_)
      · have H := zif_t q H
        exact V_fg2 (b_X0_goDay_56 hk12 H) (zfg_k (zfg_n (zfg_k (zfg_n zfg_e))))
      · have H := zif_f q H
        refine V_aload0 eX0_goDay_51 (zrf_rf _) ?_
        refine V_aload1 eX0_goDay_52 (zrf_rf _) ?_
        refine D_callU (pc' := 56) (st := []) H (fun v h' c1 s1 e cb sb k => ?_) (fun v11 h c s H => ?_)
        · obtain ⟨a, hr, ha, hk, e9⟩ := zv1_ok e
          cases hr
          exact V_invokevirtual (k := 0) eX0_goDay_53 lmX0_digs q1563 q1565 rfl rfl qs46 ha hk (c_X0_digs e9) (hRet_oU _ _) rfl rfl rfl rfl (kOU k)
        exact V_fg2 (b_X0_goDay_56 hk12 H) (zfg_k (zfg_n (zfg_k (zfg_n zfg_e))))
theorem b_X0_goDay_12 {w : Wd} {F : Nat} {x : Nat} : ∀ (n : Nat) (a2 : Int32) (h : Hp) (y : Unit) (h1 : Hp) (c s : Nat), d_X0_goDay_12 w F x n a2 h = some (y, h1, c, s) → V w mX0_goDay cX0_goDay 5 c s h 12 [some (va_rf (some x)), none, some (.int a2), none] [] (Ro (oU y) h1) := by
  intro n
  induction n with
  | zero => intro a2 h y h1 c s H; exact zno_no H
  | succ n ih => intro a2 h y h1 c s H; exact bB_X0_goDay_12 ih H
theorem c_X0_goDay {w : Wd} {F : Nat} {x : Nat} {h h1 : Hp} {y : Unit} {c s : Nat} (H : o_X0_goDay w F x h = some (y, h1, c, s)) : Con w mX0_goDay cX0_goDay 5 c s [.ref x] h (Ro (oU y) h1) := by
  unfold o_X0_goDay at H
  refine Con.of (ls := [some (va_rf (some x)), none, none, none]) (by decide +kernel) rfl rfl ?_
  refine V_aload0 eX0_goDay_0 (zrf_rf _) ?_
  refine V_iconst (v := 3) (by decide) eX0_goDay_1 ?_
  refine V_aload0 eX0_goDay_2 (zrf_rf _) ?_
  refine D_gI eX0_goDay_3 fq_X0_64_tI H (fun v1 H => ?_)
  refine V_imul eX0_goDay_6 ?_
  refine D_pI eX0_goDay_7 fq_X0_500_tN fn_X0_goDay_500 H (fun h H => ?_)
  refine V_iconst (v := 0) (by decide) eX0_goDay_10 ?_
  refine V_istore2 rfl eX0_goDay_11 rfl ?_
  exact V_fg2 (b_X0_goDay_12 _ _ _ _ _ _ _ H) (zfg_k (zfg_n (zfg_k (zfg_n zfg_e))))
def d_X0_dig_22 (w : Wd) (F : Nat) : M Int32 :=
  zrt (-2 : Int32)
def B_X0_dig_27 (w : Wd) (F : Nat) (k27 : Int32 → M Int32) (x : Nat) (a1 : Int32) (a2 : Int32) : M Int32 :=
  zif (a1 ≤ a2) (zbd (zgI f_X0_today (some x)) fun v3 =>
  zrt v3)
  (zbd (zv1 0 (some x) (fun a => o_X0_goDay w F a)) fun _ =>
  k27 (a2 + (1 : Int32)))
def d_X0_dig_27 (w : Wd) (F : Nat) (x : Nat) (a1 : Int32) : Nat → Int32 → M Int32
  | 0, _ => zno
  | n + 1, a2 => B_X0_dig_27 w F (d_X0_dig_27 w F x a1 n) x a1 a2
def o_X0_dig (w : Wd) (F : Nat) (x : Nat) (a1 : Int32) : M Int32 :=
  zbd (o_X0_in w F a1 (1 : Int32) (50 : Int32)) fun v1 =>
  zif (v1 = 0) (d_X0_dig_22 w F)
  (zbd (zgI f_X0_today (some x)) fun v2 =>
  zif ((v2 + a1) ≤ (999 : Int32)) (d_X0_dig_27 w F x a1 F (0 : Int32))
  (d_X0_dig_22 w F))
theorem b_X0_dig_22 {w : Wd} {F : Nat} {h h1 : Hp} {y : Int32} {c s : Nat} (H : d_X0_dig_22 w F h = some (y, h1, c, s)) : V w mX0_dig cX0_dig 6 c s h 22 [none, none, none] [] (Ro (oI y) h1) := by
  unfold d_X0_dig_22 at H
  refine V_bipush (v := -2) (by decide) eX0_dig_22 ?_
  obtain ⟨rfl, rfl, rfl, rfl⟩ := zrt_ok H
  exact V_ireturn eX0_dig_24 rfl ⟨rfl, rfl⟩
theorem bB_X0_dig_27 {w : Wd} {F : Nat} {k27 : Int32 → M Int32} {x : Nat} {a1 : Int32} (hk27 : ∀ (a2 : Int32) (h : Hp) (y : Int32) (h1 : Hp) (c s : Nat), k27 a2 h = some (y, h1, c, s) → V w mX0_dig cX0_dig 6 c s h 27 [some (va_rf (some x)), some (.int a1), some (.int a2)] [] (Ro (oI y) h1)) {a2 : Int32} {h h1 : Hp} {y : Int32} {c s : Nat} (H : B_X0_dig_27 w F k27 x a1 a2 h = some (y, h1, c, s)) : V w mX0_dig cX0_dig 6 c s h 27 [some (va_rf (some x)), some (.int a1), some (.int a2)] [] (Ro (oI y) h1) := by
  unfold B_X0_dig_27 at H
  refine V_iload2 eX0_dig_27 ?_
  refine V_iload1 eX0_dig_28 ?_
  refine V_if_icmpge eX0_dig_29 (fun q => ?_) (fun q => ?_)
  · have H := zif_t q H
    refine V_aload0 eX0_dig_42 (zrf_rf _) ?_
    refine D_gI eX0_dig_43 fq_X0_194_tI H (fun v3 H => ?_)
    obtain ⟨rfl, rfl, rfl, rfl⟩ := zrt_ok H
    exact V_ireturn eX0_dig_46 rfl ⟨rfl, rfl⟩
  · have H := zif_f q H
    refine V_aload0 eX0_dig_32 (zrf_rf _) ?_
    refine D_callU (pc' := 36) (st := []) H (fun v h' c1 s1 e cb sb k => ?_) (fun v4 h c s H => ?_)
    · obtain ⟨a, hr, ha, hk, e9⟩ := zv1_ok e
      cases hr
      exact V_invokevirtual (k := 0) eX0_dig_33 lmX0_goDay q1559 q1561 rfl rfl qs45 ha hk (c_X0_goDay e9) (hRet_oU _ _) rfl rfl rfl rfl (kOU k)
    refine V_iinc2 rfl eX0_dig_36 rfl (v := 1) (by decide) ?_
    refine V_goto eX0_dig_39 ?_
    exact V_fg2 (hk27 _ _ _ _ _ _ H) (zfg_k (zfg_k (zfg_k zfg_e)))
theorem b_X0_dig_27 {w : Wd} {F : Nat} {x : Nat} {a1 : Int32} : ∀ (n : Nat) (a2 : Int32) (h : Hp) (y : Int32) (h1 : Hp) (c s : Nat), d_X0_dig_27 w F x a1 n a2 h = some (y, h1, c, s) → V w mX0_dig cX0_dig 6 c s h 27 [some (va_rf (some x)), some (.int a1), some (.int a2)] [] (Ro (oI y) h1) := by
  intro n
  induction n with
  | zero => intro a2 h y h1 c s H; exact zno_no H
  | succ n ih => intro a2 h y h1 c s H; exact bB_X0_dig_27 ih H
theorem c_X0_dig {w : Wd} {F : Nat} {x : Nat} {a1 : Int32} {h h1 : Hp} {y : Int32} {c s : Nat} (H : o_X0_dig w F x a1 h = some (y, h1, c, s)) : Con w mX0_dig cX0_dig 6 c s [.ref x, .int a1] h (Ro (oI y) h1) := by
  unfold o_X0_dig at H
  refine Con.of (ls := [some (va_rf (some x)), some (.int a1), none]) (by decide +kernel) rfl rfl ?_
  refine V_iload1 eX0_dig_0 ?_
  refine V_iconst (v := 1) (by decide) eX0_dig_1 ?_
  refine V_bipush (v := 50) (by decide) eX0_dig_2 ?_
  refine D_callI (pc' := 7) (st := []) H (fun v h' c1 s1 e cb sb k => ?_) (fun v1 h c s H => ?_)
  · exact V_invokestatic eX0_dig_4 lmX0_in q149 q150 (c_X0_in e) (hRet_oI _ _) rfl rfl rfl rfl (kOI k)
  refine V_ifeq eX0_dig_7 (fun q => ?_) (fun q => ?_)
  · have H := zif_t q H
    exact V_fg2 (b_X0_dig_22 H) (zfg_n (zfg_n (zfg_n zfg_e)))
  · have H := zif_f q H
    refine V_aload0 eX0_dig_10 (zrf_rf _) ?_
    refine D_gI eX0_dig_11 fq_X0_194_tI H (fun v2 H => ?_)
    refine V_iload1 eX0_dig_14 ?_
    refine V_iadd eX0_dig_15 ?_
    refine V_sipush (v := 999) (by decide) eX0_dig_16 ?_
    refine V_if_icmple eX0_dig_19 (fun q => ?_) (fun q => ?_)
    · have H := zif_t q H
      refine V_iconst (v := 0) (by decide) eX0_dig_25 ?_
      refine V_istore2 rfl eX0_dig_26 rfl ?_
      exact V_fg2 (b_X0_dig_27 _ _ _ _ _ _ _ H) (zfg_k (zfg_k (zfg_k zfg_e)))
    · have H := zif_f q H
      exact V_fg2 (b_X0_dig_22 H) (zfg_n (zfg_n (zfg_n zfg_e)))
theorem fq_X0_503_tI : FQ RX0 503 f_X18_doneOn tI := by
  intro k j e
  unfold f_X18_doneOn at e
  split at e
  · cases e; exact ⟨fl_X0_503_18, Or.inl rfl⟩
  · cases e
def d_X0_last_19 (w : Wd) (F : Nat) : M Int32 :=
  zrt (-1 : Int32)
def d_X0_last_46 (w : Wd) (F : Nat) (s0 : Int32) : M Int32 :=
  zrt s0
def o_X0_last (w : Wd) (F : Nat) (x : Nat) (a1 : Int32) (a2 : Int32) : M Int32 :=
  zbd (zv1 0 (some x) (fun a => o_X0_billAt w F a a1)) fun v1 =>
  zif (v1 = none) (d_X0_last_19 w F)
  (zbd (o_X0_in w F a2 (0 : Int32) (1 : Int32)) fun v2 =>
  zif (v2 = 0) (d_X0_last_19 w F)
  (zbd (zgI f_X18_granted v1) fun v3 =>
  zif (v3 = 0) (zrt (-3 : Int32))
  (zif (a2 = 0) (zbd (zgI f_X18_left v1) fun v5 =>
  d_X0_last_46 w F v5)
  (zbd (zgI f_X18_doneOn v1) fun v4 =>
  d_X0_last_46 w F v4))))
theorem b_X0_last_19 {w : Wd} {F : Nat} {h h1 : Hp} {y : Int32} {c s : Nat} (H : d_X0_last_19 w F h = some (y, h1, c, s)) : V w mX0_last cX0_last 5 c s h 19 [none, none, none, none] [] (Ro (oI y) h1) := by
  unfold d_X0_last_19 at H
  refine V_iconst (v := -1) (by decide) eX0_last_19 ?_
  obtain ⟨rfl, rfl, rfl, rfl⟩ := zrt_ok H
  exact V_ireturn eX0_last_20 rfl ⟨rfl, rfl⟩
theorem b_X0_last_46 {w : Wd} {F : Nat} {s0 : Int32} {h h1 : Hp} {y : Int32} {c s : Nat} (H : d_X0_last_46 w F s0 h = some (y, h1, c, s)) : V w mX0_last cX0_last 5 c s h 46 [none, none, none, none] [.int s0] (Ro (oI y) h1) := by
  unfold d_X0_last_46 at H
  obtain ⟨rfl, rfl, rfl, rfl⟩ := zrt_ok H
  exact V_ireturn eX0_last_46 rfl ⟨rfl, rfl⟩
theorem c_X0_last {w : Wd} {F : Nat} {x : Nat} {a1 : Int32} {a2 : Int32} {h h1 : Hp} {y : Int32} {c s : Nat} (H : o_X0_last w F x a1 a2 h = some (y, h1, c, s)) : Con w mX0_last cX0_last 5 c s [.ref x, .int a1, .int a2] h (Ro (oI y) h1) := by
  unfold o_X0_last at H
  refine Con.of (ls := [some (va_rf (some x)), some (.int a1), some (.int a2), none]) (by decide +kernel) rfl rfl ?_
  refine V_aload0 eX0_last_0 (zrf_rf _) ?_
  refine V_iload1 eX0_last_1 ?_
  refine D_callR (pc' := 5) (st := []) H (fun v h' c1 s1 e cb sb k => ?_) (fun v1 h c s H => ?_)
  · obtain ⟨a, hr, ha, hk, e9⟩ := zv1_ok e
    cases hr
    exact V_invokevirtual (k := 0) eX0_last_2 lmX0_billAt q1060 q1062 rfl rfl qs33 ha hk (c_X0_billAt e9) (hRet_oR _ _) rfl rfl rfl rfl (kOR k)
  refine V_astore3 rfl eX0_last_5 rfl (zrf_rf _) ?_
  refine V_aload3 eX0_last_6 (zrf_rf _) ?_
  refine V_ifnull eX0_last_7 (fun q => ?_) (fun a q => ?_)
  · have H := zif_t q H
    exact V_fg2 (b_X0_last_19 H) (zfg_n (zfg_n (zfg_n (zfg_n zfg_e))))
  · have H := zif_f (zsn q) H
    refine V_iload2 eX0_last_10 ?_
    refine V_iconst (v := 0) (by decide) eX0_last_11 ?_
    refine V_iconst (v := 1) (by decide) eX0_last_12 ?_
    refine D_callI (pc' := 16) (st := []) H (fun v h' c1 s1 e cb sb k => ?_) (fun v2 h c s H => ?_)
    · exact V_invokestatic eX0_last_13 lmX0_in q149 q150 (c_X0_in e) (hRet_oI _ _) rfl rfl rfl rfl (kOI k)
    refine V_ifne eX0_last_16 (fun q => ?_) (fun q => ?_)
    · have H := zif_f q H
      refine V_aload3 eX0_last_21 (zrf_rf _) ?_
      refine D_gI eX0_last_22 fq_X0_344_tI H (fun v3 H => ?_)
      refine V_ifne eX0_last_25 (fun q => ?_) (fun q => ?_)
      · have H := zif_f q H
        refine V_iload2 eX0_last_31 ?_
        refine V_ifne eX0_last_32 (fun q => ?_) (fun q => ?_)
        · have H := zif_f q H
          refine V_aload3 eX0_last_42 (zrf_rf _) ?_
          refine D_gI eX0_last_43 fq_X0_503_tI H (fun v4 H => ?_)
          exact V_fg2 (b_X0_last_46 H) (zfg_n (zfg_n (zfg_n (zfg_n zfg_e))))
        · have H := zif_t q H
          refine V_aload3 eX0_last_35 (zrf_rf _) ?_
          refine D_gI eX0_last_36 fq_X0_348_tI H (fun v5 H => ?_)
          refine V_goto eX0_last_39 ?_
          exact V_fg2 (b_X0_last_46 H) (zfg_n (zfg_n (zfg_n (zfg_n zfg_e))))
      · have H := zif_t q H
        refine V_bipush (v := -3) (by decide) eX0_last_28 ?_
        obtain ⟨rfl, rfl, rfl, rfl⟩ := zrt_ok H
        exact V_ireturn eX0_last_30 rfl ⟨rfl, rfl⟩
    · have H := zif_t q H
      exact V_fg2 (b_X0_last_19 H) (zfg_n (zfg_n (zfg_n (zfg_n zfg_e))))
def d_X0_known_30 (w : Wd) (F : Nat) : M Int32 :=
  zrt (-1 : Int32)
def d_X0_known_55 (w : Wd) (F : Nat) (s0 : Int32) : M Int32 :=
  zrt s0
def d_X0_known_32 (w : Wd) (F : Nat) (x : Nat) (a1 : Int32) (a2 : Int32) : M Int32 :=
  zbd (zgR f_X0_known (some x)) fun v4 =>
  zbd (zaR v4 a2) fun v5 =>
  zbd (zal v5) fun v6 =>
  zif (v6 ≤ a1) (d_X0_known_55 w F (-1 : Int32))
  (zbd (zgR f_X0_known (some x)) fun v7 =>
  zbd (zaR v7 a2) fun v8 =>
  zbd (zaI 0 v8 a1) fun v9 =>
  d_X0_known_55 w F v9)
def o_X0_known (w : Wd) (F : Nat) (x : Nat) (a1 : Int32) (a2 : Int32) : M Int32 :=
  zbd (zgI f_X0_today (some x)) fun v1 =>
  zbd (o_X0_in w F a2 (0 : Int32) (v1 - (1 : Int32))) fun v2 =>
  zif (v2 = 0) (d_X0_known_30 w F)
  (zbd (zv1 0 (some x) (fun a => o_X0_schemeAt w F a a1)) fun v3 =>
  zif (v3 = none) (zbd (zv1 0 (some x) (fun a => o_X0_billAt w F a a1)) fun v4 =>
  zif (v4 = none) (d_X0_known_30 w F)
  (d_X0_known_32 w F x a1 a2))
  (d_X0_known_32 w F x a1 a2))
theorem b_X0_known_30 {w : Wd} {F : Nat} {h h1 : Hp} {y : Int32} {c s : Nat} (H : d_X0_known_30 w F h = some (y, h1, c, s)) : V w mX0_known cX0_known 5 c s h 30 [none, none, none] [] (Ro (oI y) h1) := by
  unfold d_X0_known_30 at H
  refine V_iconst (v := -1) (by decide) eX0_known_30 ?_
  obtain ⟨rfl, rfl, rfl, rfl⟩ := zrt_ok H
  exact V_ireturn eX0_known_31 rfl ⟨rfl, rfl⟩
theorem b_X0_known_55 {w : Wd} {F : Nat} {s0 : Int32} {h h1 : Hp} {y : Int32} {c s : Nat} (H : d_X0_known_55 w F s0 h = some (y, h1, c, s)) : V w mX0_known cX0_known 5 c s h 55 [none, none, none] [.int s0] (Ro (oI y) h1) := by
  unfold d_X0_known_55 at H
  obtain ⟨rfl, rfl, rfl, rfl⟩ := zrt_ok H
  exact V_ireturn eX0_known_55 rfl ⟨rfl, rfl⟩
theorem b_X0_known_32 {w : Wd} {F : Nat} {x : Nat} {a1 : Int32} {a2 : Int32} {h h1 : Hp} {y : Int32} {c s : Nat} (H : d_X0_known_32 w F x a1 a2 h = some (y, h1, c, s)) : V w mX0_known cX0_known 5 c s h 32 [some (va_rf (some x)), some (.int a1), some (.int a2)] [] (Ro (oI y) h1) := by
  unfold d_X0_known_32 at H
  refine V_iload1 eX0_known_32 ?_
  refine V_aload0 eX0_known_33 (zrf_rf _) ?_
  refine D_gR eX0_known_34 fq_X0_173_tR H (fun v4 H => ?_)
  refine V_iload2 eX0_known_37 ?_
  refine D_aaload eX0_known_38 H (fun v5 H => ?_)
  refine D_arraylength eX0_known_39 H (fun v6 H => ?_)
  refine V_if_icmpge eX0_known_40 (fun q => ?_) (fun q => ?_)
  · have H := zif_t q H
    refine V_iconst (v := -1) (by decide) eX0_known_54 ?_
    exact V_fg2 (b_X0_known_55 H) (zfg_n (zfg_n (zfg_n zfg_e)))
  · have H := zif_f q H
    refine V_aload0 eX0_known_43 (zrf_rf _) ?_
    refine D_gR eX0_known_44 fq_X0_173_tR H (fun v7 H => ?_)
    refine V_iload2 eX0_known_47 ?_
    refine D_aaload eX0_known_48 H (fun v8 H => ?_)
    refine V_iload1 eX0_known_49 ?_
    refine D_iaload eX0_known_50 H (fun v9 H => ?_)
    refine V_goto eX0_known_51 ?_
    exact V_fg2 (b_X0_known_55 H) (zfg_n (zfg_n (zfg_n zfg_e)))
theorem c_X0_known {w : Wd} {F : Nat} {x : Nat} {a1 : Int32} {a2 : Int32} {h h1 : Hp} {y : Int32} {c s : Nat} (H : o_X0_known w F x a1 a2 h = some (y, h1, c, s)) : Con w mX0_known cX0_known 5 c s [.ref x, .int a1, .int a2] h (Ro (oI y) h1) := by
  unfold o_X0_known at H
  refine Con.of (ls := [some (va_rf (some x)), some (.int a1), some (.int a2)]) (by decide +kernel) rfl rfl ?_
  refine V_iload2 eX0_known_0 ?_
  refine V_iconst (v := 0) (by decide) eX0_known_1 ?_
  refine V_aload0 eX0_known_2 (zrf_rf _) ?_
  refine D_gI eX0_known_3 fq_X0_194_tI H (fun v1 H => ?_)
  refine V_iconst (v := 1) (by decide) eX0_known_6 ?_
  refine V_isub eX0_known_7 ?_
  refine D_callI (pc' := 11) (st := []) H (fun v h' c1 s1 e cb sb k => ?_) (fun v2 h c s H => ?_)
  · exact V_invokestatic eX0_known_8 lmX0_in q149 q150 (c_X0_in e) (hRet_oI _ _) rfl rfl rfl rfl (kOI k)
  refine V_ifeq eX0_known_11 (fun q => ?_) (fun q => ?_)
  · have H := zif_t q H
    exact V_fg2 (b_X0_known_30 H) (zfg_n (zfg_n (zfg_n zfg_e)))
  · have H := zif_f q H
    refine V_aload0 eX0_known_14 (zrf_rf _) ?_
    refine V_iload1 eX0_known_15 ?_
    refine D_callR (pc' := 19) (st := []) H (fun v h' c1 s1 e cb sb k => ?_) (fun v3 h c s H => ?_)
    · obtain ⟨a, hr, ha, hk, e9⟩ := zv1_ok e
      cases hr
      exact V_invokevirtual (k := 0) eX0_known_16 lmX0_schemeAt q802 q804 rfl rfl qs21 ha hk (c_X0_schemeAt e9) (hRet_oR _ _) rfl rfl rfl rfl (kOR k)
    refine V_ifnonnull eX0_known_19 (fun a q => ?_) (fun q => ?_)
    · have H := zif_f (zsn q) H
      exact V_fg2 (b_X0_known_32 H) (zfg_k (zfg_k (zfg_k zfg_e)))
    · have H := zif_t q H
      refine V_aload0 eX0_known_22 (zrf_rf _) ?_
      refine V_iload1 eX0_known_23 ?_
      refine D_callR (pc' := 27) (st := []) H (fun v h' c1 s1 e cb sb k => ?_) (fun v4 h c s H => ?_)
      · obtain ⟨a, hr, ha, hk, e9⟩ := zv1_ok e
        cases hr
        exact V_invokevirtual (k := 0) eX0_known_24 lmX0_billAt q1060 q1062 rfl rfl qs33 ha hk (c_X0_billAt e9) (hRet_oR _ _) rfl rfl rfl rfl (kOR k)
      refine V_ifnonnull eX0_known_27 (fun a q => ?_) (fun q => ?_)
      · have H := zif_f (zsn q) H
        exact V_fg2 (b_X0_known_32 H) (zfg_k (zfg_k (zfg_k zfg_e)))
      · have H := zif_t q H
        exact V_fg2 (b_X0_known_30 H) (zfg_n (zfg_n (zfg_n zfg_e)))
def f_X18_gauge : Nat → Option Nat := fun k => match k with
  | 13 => some 4
  | 15 => some 4
  | 18 => some 4
  | _ => none
theorem fq_X0_513_tI : FQ RX0 513 f_X18_gauge tI := by
  intro k j e
  unfold f_X18_gauge at e
  split at e
  · cases e; exact ⟨fl_X0_513_13, Or.inl rfl⟩
  · cases e; exact ⟨fl_X0_513_15, Or.inl rfl⟩
  · cases e; exact ⟨fl_X0_513_18, Or.inl rfl⟩
  · cases e
def f_X18_from : Nat → Option Nat := fun k => match k with
  | 13 => some 2
  | 15 => some 2
  | 18 => some 2
  | _ => none
theorem fq_X0_514_tR : FQ RX0 514 f_X18_from tR := by
  intro k j e
  unfold f_X18_from at e
  split at e
  · cases e; exact ⟨fl_X0_514_13, Or.inl ⟨_, rfl⟩⟩
  · cases e; exact ⟨fl_X0_514_15, Or.inl ⟨_, rfl⟩⟩
  · cases e; exact ⟨fl_X0_514_18, Or.inl ⟨_, rfl⟩⟩
  · cases e
theorem fq_X0_515_tI : FQ RX0 515 f_X3_number tI := by
  intro k j e
  unfold f_X3_number at e
  split at e
  · cases e; exact ⟨fl_X0_515_3, Or.inl rfl⟩
  · cases e
def f_X18_to : Nat → Option Nat := fun k => match k with
  | 13 => some 3
  | 15 => some 3
  | 18 => some 3
  | _ => none
theorem fq_X0_516_tR : FQ RX0 516 f_X18_to tR := by
  intro k j e
  unfold f_X18_to at e
  split at e
  · cases e; exact ⟨fl_X0_516_13, Or.inl ⟨_, rfl⟩⟩
  · cases e; exact ⟨fl_X0_516_15, Or.inl ⟨_, rfl⟩⟩
  · cases e; exact ⟨fl_X0_516_18, Or.inl ⟨_, rfl⟩⟩
  · cases e
def d_X0_meet_78 (w : Wd) (F : Nat) (k6 : Int32 → M Int32) (x : Nat) (a1 : Option Nat) (a3 : Int32) : M Int32 :=
  k6 (a3 + (1 : Int32))
def B_X0_meet_6 (w : Wd) (F : Nat) (k6 : Int32 → M Int32) (x : Nat) (a1 : Option Nat) (a3 : Int32) : M Int32 :=
  zbd (zgR f_X0_papers (some x)) fun v2 =>
  zbd (zv1 30 v2 (fun a => o_J2_size w F a)) fun v3 =>
  zif (v3 ≤ a3) (zbd (zaI 0 a1 (0 : Int32)) fun v4 =>
  zbd (zaI 0 a1 (1 : Int32)) fun v5 =>
  zrt (v4 &&& v5))
  (zbd (zgR f_X0_papers (some x)) fun v6 =>
  zbd (zv1 30 v6 (fun a => o_J2_get w F a a3)) fun v7 =>
  zbd (zio y_X18 n_X18 v7) fun v8 =>
  zif (v8 = 0) (d_X0_meet_78 w F k6 x a1 a3)
  (zbd (zcc y_X18 v7) fun _ =>
  zbd (zgI f_X18_doneOn v7) fun v9 =>
  zif (v9 = (-5 : Int32)) (d_X0_meet_78 w F k6 x a1 a3)
  (zbd (zgI f_X18_gauge v7) fun v10 =>
  zbd (zaI 0 a1 v10) fun v11 =>
  zbd (zgR f_X18_from v7) fun v12 =>
  zbd (zgI f_X3_number v12) fun v13 =>
  zbd (zgR f_X18_to v7) fun v14 =>
  zbd (zgI f_X3_number v14) fun v15 =>
  zbd (zsI 0 a1 v10 (v11 ||| (((1 : Int32) <<< (v13 &&& 31)) ||| ((1 : Int32) <<< (v15 &&& 31))))) fun _ =>
  d_X0_meet_78 w F k6 x a1 a3)))
def d_X0_meet_6 (w : Wd) (F : Nat) (x : Nat) (a1 : Option Nat) : Nat → Int32 → M Int32
  | 0, _ => zno
  | n + 1, a3 => B_X0_meet_6 w F (d_X0_meet_6 w F x a1 n) x a1 a3
def o_X0_meet (w : Wd) (F : Nat) (x : Nat) : M Int32 :=
  zbd (znA 100 0 (2 : Int32)) fun n1 =>
  d_X0_meet_6 w F x n1 F (0 : Int32)
theorem b_X0_meet_78 {w : Wd} {F : Nat} {k6 : Int32 → M Int32} {x : Nat} {a1 : Option Nat} (hk6 : ∀ (a3 : Int32) (h : Hp) (y : Int32) (h1 : Hp) (c s : Nat), k6 a3 h = some (y, h1, c, s) → V w mX0_meet cX0_meet 3 c s h 6 [some (va_rf (some x)), some (va_rf a1), none, some (.int a3), none] [] (Ro (oI y) h1)) {a3 : Int32} {h h1 : Hp} {y : Int32} {c s : Nat} (H : d_X0_meet_78 w F k6 x a1 a3 h = some (y, h1, c, s)) : V w mX0_meet cX0_meet 3 c s h 78 [some (va_rf (some x)), some (va_rf a1), none, some (.int a3), none] [] (Ro (oI y) h1) := by
  unfold d_X0_meet_78 at H
  refine V_iinc3 rfl eX0_meet_78 rfl (v := 1) (by decide) ?_
  refine V_goto eX0_meet_81 ?_
  exact V_fg2 (hk6 _ _ _ _ _ _ H) (zfg_k (zfg_k (zfg_n (zfg_k (zfg_n zfg_e)))))
theorem bB_X0_meet_6 {w : Wd} {F : Nat} {k6 : Int32 → M Int32} {x : Nat} {a1 : Option Nat} (hk6 : ∀ (a3 : Int32) (h : Hp) (y : Int32) (h1 : Hp) (c s : Nat), k6 a3 h = some (y, h1, c, s) → V w mX0_meet cX0_meet 3 c s h 6 [some (va_rf (some x)), some (va_rf a1), none, some (.int a3), none] [] (Ro (oI y) h1)) {a3 : Int32} {h h1 : Hp} {y : Int32} {c s : Nat} (H : B_X0_meet_6 w F k6 x a1 a3 h = some (y, h1, c, s)) : V w mX0_meet cX0_meet 3 c s h 6 [some (va_rf (some x)), some (va_rf a1), none, some (.int a3), none] [] (Ro (oI y) h1) := by
  unfold B_X0_meet_6 at H
  refine V_iload3 eX0_meet_6 ?_
  refine V_aload0 eX0_meet_7 (zrf_rf _) ?_
  refine D_gR eX0_meet_8 fq_X0_121_tR H (fun v2 H => ?_)
  refine D_callI (pc' := 14) (st := [.int a3]) H (fun v h' c1 s1 e cb sb k => ?_) (fun v3 h c s H => ?_)
  · obtain ⟨a, hr, ha, hk, e9⟩ := zv1_ok e
    cases hr
    exact V_invokevirtual (k := 30) eX0_meet_11 lmJ2_size q156 q157 rfl rfl q158 ha hk (c_J2_size e9) (hRet_oI _ _) rfl rfl rfl rfl (kOI k)
  refine V_if_icmpge eX0_meet_14 (fun q => ?_) (fun q => ?_)
  · have H := zif_t q H
    refine V_aload1 eX0_meet_84 (zrf_rf _) ?_
    refine V_iconst (v := 0) (by decide) eX0_meet_85 ?_
    refine D_iaload eX0_meet_86 H (fun v4 H => ?_)
    refine V_aload1 eX0_meet_87 (zrf_rf _) ?_
    refine V_iconst (v := 1) (by decide) eX0_meet_88 ?_
    refine D_iaload eX0_meet_89 H (fun v5 H => ?_)
    refine V_iand eX0_meet_90 ?_
    obtain ⟨rfl, rfl, rfl, rfl⟩ := zrt_ok H
    exact V_ireturn eX0_meet_91 rfl ⟨rfl, rfl⟩
  · have H := zif_f q H
    refine V_aload0 eX0_meet_17 (zrf_rf _) ?_
    refine D_gR eX0_meet_18 fq_X0_121_tR H (fun v6 H => ?_)
    refine V_iload3 eX0_meet_21 ?_
    refine D_callR (pc' := 25) (st := []) H (fun v h' c1 s1 e cb sb k => ?_) (fun v7 h c s H => ?_)
    · obtain ⟨a, hr, ha, hk, e9⟩ := zv1_ok e
      cases hr
      exact V_invokevirtual (k := 30) eX0_meet_22 lmJ2_get q160 q161 rfl rfl q162 ha hk (c_J2_get e9) (hRet_oR _ _) rfl rfl rfl rfl (kOR k)
    refine V_astore4 rfl eX0_meet_25 rfl (zrf_rf _) ?_
    refine V_aload4 eX0_meet_27 (zrf_rf _) ?_
    refine D_inst eX0_meet_29 q1014 y_X18_ok n_X18_ok H (fun v8 H => ?_)
    refine V_ifeq eX0_meet_32 (fun q => ?_) (fun q => ?_)
    · have H := zif_t q H
      exact V_fg2 (b_X0_meet_78 hk6 H) (zfg_k (zfg_k (zfg_n (zfg_k (zfg_n zfg_e)))))
    · have H := zif_f q H
      refine V_aload4 eX0_meet_35 (zrf_rf _) ?_
      refine D_cast eX0_meet_37 q1014 y_X18_ok H (fun H => ?_)
      refine V_astore2 (znl_rf _) eX0_meet_40 rfl (zrf_rf _) ?_
      refine V_aload2 eX0_meet_41 (zrf_rf _) ?_
      refine D_gI eX0_meet_42 fq_X0_503_tI H (fun v9 H => ?_)
      refine V_bipush (v := -5) (by decide) eX0_meet_45 ?_
      refine V_if_icmpeq eX0_meet_47 (fun q => ?_) (fun q => ?_)
      · have H := zif_t q H
        exact V_fg2 (b_X0_meet_78 hk6 H) (zfg_k (zfg_k (zfg_n (zfg_k (zfg_n zfg_e)))))
      · have H := zif_f q H
        refine V_aload1 eX0_meet_50 (zrf_rf _) ?_
        refine V_aload2 eX0_meet_51 (zrf_rf _) ?_
        refine D_gI eX0_meet_52 fq_X0_513_tI H (fun v10 H => ?_)
        refine V_dup2 rfl (zcr _) eX0_meet_55 ?_
        refine D_iaload eX0_meet_56 H (fun v11 H => ?_)
        refine V_iconst (v := 1) (by decide) eX0_meet_57 ?_
        refine V_aload2 eX0_meet_58 (zrf_rf _) ?_
        refine D_gR eX0_meet_59 fq_X0_514_tR H (fun v12 H => ?_)
        refine D_gI eX0_meet_62 fq_X0_515_tI H (fun v13 H => ?_)
        refine V_ishl eX0_meet_65 ?_
        refine V_iconst (v := 1) (by decide) eX0_meet_66 ?_
        refine V_aload2 eX0_meet_67 (zrf_rf _) ?_
        refine D_gR eX0_meet_68 fq_X0_516_tR H (fun v14 H => ?_)
        refine D_gI eX0_meet_71 fq_X0_515_tI H (fun v15 H => ?_)
        refine V_ishl eX0_meet_74 ?_
        refine V_ior eX0_meet_75 ?_
        refine V_ior eX0_meet_76 ?_
        refine D_iastore eX0_meet_77 H (fun h H => ?_)
        exact V_fg2 (b_X0_meet_78 hk6 H) (zfg_k (zfg_k (zfg_n (zfg_k (zfg_n zfg_e)))))
theorem b_X0_meet_6 {w : Wd} {F : Nat} {x : Nat} {a1 : Option Nat} : ∀ (n : Nat) (a3 : Int32) (h : Hp) (y : Int32) (h1 : Hp) (c s : Nat), d_X0_meet_6 w F x a1 n a3 h = some (y, h1, c, s) → V w mX0_meet cX0_meet 3 c s h 6 [some (va_rf (some x)), some (va_rf a1), none, some (.int a3), none] [] (Ro (oI y) h1) := by
  intro n
  induction n with
  | zero => intro a3 h y h1 c s H; exact zno_no H
  | succ n ih => intro a3 h y h1 c s H; exact bB_X0_meet_6 ih H
theorem c_X0_meet {w : Wd} {F : Nat} {x : Nat} {h h1 : Hp} {y : Int32} {c s : Nat} (H : o_X0_meet w F x h = some (y, h1, c, s)) : Con w mX0_meet cX0_meet 3 c s [.ref x] h (Ro (oI y) h1) := by
  unfold o_X0_meet at H
  refine Con.of (ls := [some (va_rf (some x)), none, none, none, none]) (by decide +kernel) rfl rfl ?_
  refine V_iconst (v := 2) (by decide) eX0_meet_0 ?_
  refine D_newarray (g := 0) (κ := 100) (cT := 0) eX0_meet_1 rfl rfl rfl q585 rfl (by decide) H (fun n1 h c s H => ?_)
  refine V_astore1 (znl_rf _) eX0_meet_3 rfl (zrf_rf _) ?_
  refine V_iconst (v := 0) (by decide) eX0_meet_4 ?_
  refine V_istore3 rfl eX0_meet_5 rfl ?_
  exact V_fg2 (b_X0_meet_6 _ _ _ _ _ _ _ H) (zfg_k (zfg_k (zfg_n (zfg_k (zfg_n zfg_e)))))
def o_X0_areTowns (w : Wd) (F : Nat) (x : Nat) (a1 : Int32) : M Int32 :=
  zbd (zgR f_X0_towns (some x)) fun v1 =>
  zbd (zv1 30 v1 (fun a => o_J2_size w F a)) fun v2 =>
  zbd (o_X0_in w F a1 (0 : Int32) (((1 : Int32) <<< (v2 &&& 31)) - (1 : Int32))) fun v3 =>
  zbd (zgd (v3 = 0 ∨ v3 = 1)) fun _ => zrt v3
theorem c_X0_areTowns {w : Wd} {F : Nat} {x : Nat} {a1 : Int32} {h h1 : Hp} {y : Int32} {c s : Nat} (H : o_X0_areTowns w F x a1 h = some (y, h1, c, s)) : Con w mX0_areTowns cX0_areTowns 1 c s [.ref x, .int a1] h (Ro (oI y) h1) := by
  unfold o_X0_areTowns at H
  refine Con.of (ls := [some (va_rf (some x)), some (.int a1)]) (by decide +kernel) rfl rfl ?_
  refine V_iload1 eX0_areTowns_0 ?_
  refine V_iconst (v := 0) (by decide) eX0_areTowns_1 ?_
  refine V_iconst (v := 1) (by decide) eX0_areTowns_2 ?_
  refine V_aload0 eX0_areTowns_3 (zrf_rf _) ?_
  refine D_gR eX0_areTowns_4 fq_X0_28_tR H (fun v1 H => ?_)
  refine D_callI (pc' := 10) (st := [.int (1 : Int32), .int (0 : Int32), .int a1]) H (fun v h' c1 s1 e cb sb k => ?_) (fun v2 h c s H => ?_)
  · obtain ⟨a, hr, ha, hk, e9⟩ := zv1_ok e
    cases hr
    exact V_invokevirtual (k := 30) eX0_areTowns_7 lmJ2_size q156 q157 rfl rfl q158 ha hk (c_J2_size e9) (hRet_oI _ _) rfl rfl rfl rfl (kOI k)
  refine V_ishl eX0_areTowns_10 ?_
  refine V_iconst (v := 1) (by decide) eX0_areTowns_11 ?_
  refine V_isub eX0_areTowns_12 ?_
  refine D_callI (pc' := 16) (st := []) H (fun v h' c1 s1 e cb sb k => ?_) (fun v3 h c s H => ?_)
  · exact V_invokestatic eX0_areTowns_13 lmX0_in q149 q150 (c_X0_in e) (hRet_oI _ _) rfl rfl rfl rfl (kOI k)
  obtain ⟨q, H⟩ := zgd_ok H
  obtain ⟨rfl, rfl, rfl, rfl⟩ := zrt_ok H
  exact V_zreturn eX0_areTowns_16 rfl q ⟨rfl, rfl⟩
def d_X0_join_126 (w : Wd) (F : Nat) (s0 : Int32) : M Int32 :=
  zbd (zgd (s0 = 0 ∨ s0 = 1)) fun _ => zrt s0
def d_X0_join_100 (w : Wd) (F : Nat) (k29 : Int32 → Int32 → M Int32) (a1 : Int32) (a2 : Option Nat) (a3 : Int32) (a4 : Int32) (a5 : Int32) (a6 : Int32) : M Int32 :=
  k29 a4 (a6 + (1 : Int32))
def B_X0_join_29 (w : Wd) (F : Nat) (k19 : Int32 → Int32 → M Int32) (k29 : Int32 → Int32 → M Int32) (a1 : Int32) (a2 : Option Nat) (a3 : Int32) (a5 : Int32) (a4 : Int32) (a6 : Int32) : M Int32 :=
  zbd (zv1 30 a2 (fun a => o_J2_size w F a)) fun v1 =>
  zif (v1 ≤ a6) (k19 a4 (a5 + (1 : Int32)))
  (zbd (zv1 30 a2 (fun a => o_J2_get w F a a6)) fun v2 =>
  zbd (zcc y_X18 v2) fun _ =>
  zbd (zgR f_X18_from v2) fun v3 =>
  zbd (zgI f_X3_number v3) fun v4 =>
  zbd (zv1 30 a2 (fun a => o_J2_get w F a a6)) fun v5 =>
  zbd (zcc y_X18 v5) fun _ =>
  zbd (zgR f_X18_to v5) fun v6 =>
  zbd (zgI f_X3_number v6) fun v7 =>
  zif (((a3 >>> (a6 &&& 31)) &&& (1 : Int32)) = (1 : Int32)) (zif (((((1 : Int32) <<< (v4 &&& 31)) ||| ((1 : Int32) <<< (v7 &&& 31))) &&& a4) = 0) (d_X0_join_100 w F k29 a1 a2 a3 a4 a5 a6)
  (d_X0_join_100 w F k29 a1 a2 a3 (a4 ||| (((1 : Int32) <<< (v4 &&& 31)) ||| ((1 : Int32) <<< (v7 &&& 31)))) a5 a6))
  (d_X0_join_100 w F k29 a1 a2 a3 a4 a5 a6))
def d_X0_join_29 (w : Wd) (F : Nat) (k19 : Int32 → Int32 → M Int32) (a1 : Int32) (a2 : Option Nat) (a3 : Int32) (a5 : Int32) : Nat → Int32 → Int32 → M Int32
  | 0, _, _ => zno
  | n + 1, a4, a6 => B_X0_join_29 w F k19 (d_X0_join_29 w F k19 a1 a2 a3 a5 n) a1 a2 a3 a5 a4 a6
def B_X0_join_19 (w : Wd) (F : Nat) (k19 : Int32 → Int32 → M Int32) (a1 : Int32) (a2 : Option Nat) (a3 : Int32) (a4 : Int32) (a5 : Int32) : M Int32 :=
  zif ((6 : Int32) ≤ a5) (zif ((a1 &&& (a4 ^^^ (-1 : Int32))) = 0) (d_X0_join_126 w F (1 : Int32))
  (d_X0_join_126 w F (0 : Int32)))
  (d_X0_join_29 w F k19 a1 a2 a3 a5 F a4 (0 : Int32))
def d_X0_join_19 (w : Wd) (F : Nat) (a1 : Int32) (a2 : Option Nat) (a3 : Int32) : Nat → Int32 → Int32 → M Int32
  | 0, _, _ => zno
  | n + 1, a4, a5 => B_X0_join_19 w F (d_X0_join_19 w F a1 a2 a3 n) a1 a2 a3 a4 a5
def o_X0_join (w : Wd) (F : Nat) (x : Nat) (a1 : Int32) (a2 : Option Nat) (a3 : Int32) : M Int32 :=
  zif ((a1 &&& (a1 - (1 : Int32))) = 0) (zbd (zgd ((1 : Int32) = 0 ∨ (1 : Int32) = 1)) fun _ => zrt (1 : Int32))
  (d_X0_join_19 w F a1 a2 a3 F (a1 &&& (-a1)) (0 : Int32))
theorem b_X0_join_126 {w : Wd} {F : Nat} {s0 : Int32} {h h1 : Hp} {y : Int32} {c s : Nat} (H : d_X0_join_126 w F s0 h = some (y, h1, c, s)) : V w mX0_join cX0_join 3 c s h 126 [none, none, none, none, none, none, none, none] [.int s0] (Ro (oI y) h1) := by
  unfold d_X0_join_126 at H
  obtain ⟨q, H⟩ := zgd_ok H
  obtain ⟨rfl, rfl, rfl, rfl⟩ := zrt_ok H
  exact V_zreturn eX0_join_126 rfl q ⟨rfl, rfl⟩
theorem b_X0_join_100 {w : Wd} {F : Nat} {k29 : Int32 → Int32 → M Int32} {a1 : Int32} {a2 : Option Nat} {a3 : Int32} {a5 : Int32} (hk29 : ∀ (a4 : Int32) (a6 : Int32) (h : Hp) (y : Int32) (h1 : Hp) (c s : Nat), k29 a4 a6 h = some (y, h1, c, s) → V w mX0_join cX0_join 3 c s h 29 [none, some (.int a1), some (va_rf a2), some (.int a3), some (.int a4), some (.int a5), some (.int a6), none] [] (Ro (oI y) h1)) {a4 : Int32} {a6 : Int32} {h h1 : Hp} {y : Int32} {c s : Nat} (H : d_X0_join_100 w F k29 a1 a2 a3 a4 a5 a6 h = some (y, h1, c, s)) : V w mX0_join cX0_join 3 c s h 100 [none, some (.int a1), some (va_rf a2), some (.int a3), some (.int a4), some (.int a5), some (.int a6), none] [] (Ro (oI y) h1) := by
  unfold d_X0_join_100 at H
  refine V_iinc6 rfl eX0_join_100 rfl (v := 1) (by decide) ?_
  refine V_goto eX0_join_103 ?_
  exact V_fg2 (hk29 _ _ _ _ _ _ _ H) (zfg_n (zfg_k (zfg_k (zfg_k (zfg_k (zfg_k (zfg_k (zfg_n zfg_e))))))))
theorem bB_X0_join_29 {w : Wd} {F : Nat} {k19 : Int32 → Int32 → M Int32} {k29 : Int32 → Int32 → M Int32} {a1 : Int32} {a2 : Option Nat} {a3 : Int32} {a5 : Int32} (hk19 : ∀ (a4 : Int32) (a5 : Int32) (h : Hp) (y : Int32) (h1 : Hp) (c s : Nat), k19 a4 a5 h = some (y, h1, c, s) → V w mX0_join cX0_join 3 c s h 19 [none, some (.int a1), some (va_rf a2), some (.int a3), some (.int a4), some (.int a5), none, none] [] (Ro (oI y) h1)) (hk29 : ∀ (a4 : Int32) (a6 : Int32) (h : Hp) (y : Int32) (h1 : Hp) (c s : Nat), k29 a4 a6 h = some (y, h1, c, s) → V w mX0_join cX0_join 3 c s h 29 [none, some (.int a1), some (va_rf a2), some (.int a3), some (.int a4), some (.int a5), some (.int a6), none] [] (Ro (oI y) h1)) {a4 : Int32} {a6 : Int32} {h h1 : Hp} {y : Int32} {c s : Nat} (H : B_X0_join_29 w F k19 k29 a1 a2 a3 a5 a4 a6 h = some (y, h1, c, s)) : V w mX0_join cX0_join 3 c s h 29 [none, some (.int a1), some (va_rf a2), some (.int a3), some (.int a4), some (.int a5), some (.int a6), none] [] (Ro (oI y) h1) := by
  unfold B_X0_join_29 at H
  refine V_iload6 eX0_join_29 ?_
  refine V_aload2 eX0_join_31 (zrf_rf _) ?_
  refine D_callI (pc' := 35) (st := [.int a6]) H (fun v h' c1 s1 e cb sb k => ?_) (fun v1 h c s H => ?_)
  · obtain ⟨a, hr, ha, hk, e9⟩ := zv1_ok e
    cases hr
    exact V_invokevirtual (k := 30) eX0_join_32 lmJ2_size q156 q157 rfl rfl q158 ha hk (c_J2_size e9) (hRet_oI _ _) rfl rfl rfl rfl (kOI k)
  refine V_if_icmpge eX0_join_35 (fun q => ?_) (fun q => ?_)
  · have H := zif_t q H
    refine V_iinc5 rfl eX0_join_106 rfl (v := 1) (by decide) ?_
    refine V_goto eX0_join_109 ?_
    exact V_fg2 (hk19 _ _ _ _ _ _ _ H) (zfg_n (zfg_k (zfg_k (zfg_k (zfg_k (zfg_k (zfg_n (zfg_n zfg_e))))))))
  · have H := zif_f q H
    refine V_iconst (v := 1) (by decide) eX0_join_38 ?_
    refine V_aload2 eX0_join_39 (zrf_rf _) ?_
    refine V_iload6 eX0_join_40 ?_
    refine D_callR (pc' := 45) (st := [.int (1 : Int32)]) H (fun v h' c1 s1 e cb sb k => ?_) (fun v2 h c s H => ?_)
    · obtain ⟨a, hr, ha, hk, e9⟩ := zv1_ok e
      cases hr
      exact V_invokevirtual (k := 30) eX0_join_42 lmJ2_get q160 q161 rfl rfl q162 ha hk (c_J2_get e9) (hRet_oR _ _) rfl rfl rfl rfl (kOR k)
    refine D_cast eX0_join_45 q1014 y_X18_ok H (fun H => ?_)
    refine D_gR eX0_join_48 fq_X0_514_tR H (fun v3 H => ?_)
    refine D_gI eX0_join_51 fq_X0_515_tI H (fun v4 H => ?_)
    refine V_ishl eX0_join_54 ?_
    refine V_iconst (v := 1) (by decide) eX0_join_55 ?_
    refine V_aload2 eX0_join_56 (zrf_rf _) ?_
    refine V_iload6 eX0_join_57 ?_
    refine D_callR (pc' := 62) (st := [.int (1 : Int32), .int ((1 : Int32) <<< (v4 &&& 31))]) H (fun v h' c1 s1 e cb sb k => ?_) (fun v5 h c s H => ?_)
    · obtain ⟨a, hr, ha, hk, e9⟩ := zv1_ok e
      cases hr
      exact V_invokevirtual (k := 30) eX0_join_59 lmJ2_get q160 q161 rfl rfl q162 ha hk (c_J2_get e9) (hRet_oR _ _) rfl rfl rfl rfl (kOR k)
    refine D_cast eX0_join_62 q1014 y_X18_ok H (fun H => ?_)
    refine D_gR eX0_join_65 fq_X0_516_tR H (fun v6 H => ?_)
    refine D_gI eX0_join_68 fq_X0_515_tI H (fun v7 H => ?_)
    refine V_ishl eX0_join_71 ?_
    refine V_ior eX0_join_72 ?_
    refine V_istore7 rfl eX0_join_73 rfl ?_
    refine V_iload3 eX0_join_75 ?_
    refine V_iload6 eX0_join_76 ?_
    refine V_ishr eX0_join_78 ?_
    refine V_iconst (v := 1) (by decide) eX0_join_79 ?_
    refine V_iand eX0_join_80 ?_
    refine V_iconst (v := 1) (by decide) eX0_join_81 ?_
    refine V_if_icmpne eX0_join_82 (fun q => ?_) (fun q => ?_)
    · have H := zif_f q H
      exact V_fg2 (b_X0_join_100 hk29 H) (zfg_n (zfg_k (zfg_k (zfg_k (zfg_k (zfg_k (zfg_k (zfg_n zfg_e))))))))
    · have H := zif_t q H
      refine V_iload7 eX0_join_85 ?_
      refine V_iload4 eX0_join_87 ?_
      refine V_iand eX0_join_89 ?_
      refine V_ifeq eX0_join_90 (fun q => ?_) (fun q => ?_)
      · have H := zif_t q H
        exact V_fg2 (b_X0_join_100 hk29 H) (zfg_n (zfg_k (zfg_k (zfg_k (zfg_k (zfg_k (zfg_k (zfg_n zfg_e))))))))
      · have H := zif_f q H
        refine V_iload4 eX0_join_93 ?_
        refine V_iload7 eX0_join_95 ?_
        refine V_ior eX0_join_97 ?_
        refine V_istore4 rfl eX0_join_98 rfl ?_
        exact V_fg2 (b_X0_join_100 hk29 H) (zfg_n (zfg_k (zfg_k (zfg_k (zfg_k (zfg_k (zfg_k (zfg_n zfg_e))))))))
theorem b_X0_join_29 {w : Wd} {F : Nat} {k19 : Int32 → Int32 → M Int32} {a1 : Int32} {a2 : Option Nat} {a3 : Int32} {a5 : Int32} (hk19 : ∀ (a4 : Int32) (a5 : Int32) (h : Hp) (y : Int32) (h1 : Hp) (c s : Nat), k19 a4 a5 h = some (y, h1, c, s) → V w mX0_join cX0_join 3 c s h 19 [none, some (.int a1), some (va_rf a2), some (.int a3), some (.int a4), some (.int a5), none, none] [] (Ro (oI y) h1)) : ∀ (n : Nat) (a4 : Int32) (a6 : Int32) (h : Hp) (y : Int32) (h1 : Hp) (c s : Nat), d_X0_join_29 w F k19 a1 a2 a3 a5 n a4 a6 h = some (y, h1, c, s) → V w mX0_join cX0_join 3 c s h 29 [none, some (.int a1), some (va_rf a2), some (.int a3), some (.int a4), some (.int a5), some (.int a6), none] [] (Ro (oI y) h1) := by
  intro n
  induction n with
  | zero => intro a4 a6 h y h1 c s H; exact zno_no H
  | succ n ih => intro a4 a6 h y h1 c s H; exact bB_X0_join_29 hk19 ih H
theorem bB_X0_join_19 {w : Wd} {F : Nat} {k19 : Int32 → Int32 → M Int32} {a1 : Int32} {a2 : Option Nat} {a3 : Int32} (hk19 : ∀ (a4 : Int32) (a5 : Int32) (h : Hp) (y : Int32) (h1 : Hp) (c s : Nat), k19 a4 a5 h = some (y, h1, c, s) → V w mX0_join cX0_join 3 c s h 19 [none, some (.int a1), some (va_rf a2), some (.int a3), some (.int a4), some (.int a5), none, none] [] (Ro (oI y) h1)) {a4 : Int32} {a5 : Int32} {h h1 : Hp} {y : Int32} {c s : Nat} (H : B_X0_join_19 w F k19 a1 a2 a3 a4 a5 h = some (y, h1, c, s)) : V w mX0_join cX0_join 3 c s h 19 [none, some (.int a1), some (va_rf a2), some (.int a3), some (.int a4), some (.int a5), none, none] [] (Ro (oI y) h1) := by
  unfold B_X0_join_19 at H
  refine V_iload5 eX0_join_19 ?_
  refine V_bipush (v := 6) (by decide) eX0_join_21 ?_
  refine V_if_icmpge eX0_join_23 (fun q => ?_) (fun q => ?_)
  · have H := zif_t q H
    refine V_iload1 eX0_join_112 ?_
    refine V_iload4 eX0_join_113 ?_
    refine V_iconst (v := -1) (by decide) eX0_join_115 ?_
    refine V_ixor eX0_join_116 ?_
    refine V_iand eX0_join_117 ?_
    refine V_ifne eX0_join_118 (fun q => ?_) (fun q => ?_)
    · have H := zif_f q H
      refine V_iconst (v := 0) (by decide) eX0_join_125 ?_
      exact V_fg2 (b_X0_join_126 H) (zfg_n (zfg_n (zfg_n (zfg_n (zfg_n (zfg_n (zfg_n (zfg_n zfg_e))))))))
    · have H := zif_t q H
      refine V_iconst (v := 1) (by decide) eX0_join_121 ?_
      refine V_goto eX0_join_122 ?_
      exact V_fg2 (b_X0_join_126 H) (zfg_n (zfg_n (zfg_n (zfg_n (zfg_n (zfg_n (zfg_n (zfg_n zfg_e))))))))
  · have H := zif_f q H
    refine V_iconst (v := 0) (by decide) eX0_join_26 ?_
    refine V_istore6 rfl eX0_join_27 rfl ?_
    exact V_fg2 (b_X0_join_29 hk19 _ _ _ _ _ _ _ _ H) (zfg_n (zfg_k (zfg_k (zfg_k (zfg_k (zfg_k (zfg_k (zfg_n zfg_e))))))))
theorem b_X0_join_19 {w : Wd} {F : Nat} {a1 : Int32} {a2 : Option Nat} {a3 : Int32} : ∀ (n : Nat) (a4 : Int32) (a5 : Int32) (h : Hp) (y : Int32) (h1 : Hp) (c s : Nat), d_X0_join_19 w F a1 a2 a3 n a4 a5 h = some (y, h1, c, s) → V w mX0_join cX0_join 3 c s h 19 [none, some (.int a1), some (va_rf a2), some (.int a3), some (.int a4), some (.int a5), none, none] [] (Ro (oI y) h1) := by
  intro n
  induction n with
  | zero => intro a4 a5 h y h1 c s H; exact zno_no H
  | succ n ih => intro a4 a5 h y h1 c s H; exact bB_X0_join_19 ih H
theorem c_X0_join {w : Wd} {F : Nat} {x : Nat} {a1 : Int32} {a2 : Option Nat} {a3 : Int32} {h h1 : Hp} {y : Int32} {c s : Nat} (H : o_X0_join w F x a1 a2 a3 h = some (y, h1, c, s)) : Con w mX0_join cX0_join 3 c s [.ref x, .int a1, va_rf a2, .int a3] h (Ro (oI y) h1) := by
  unfold o_X0_join at H
  refine Con.of (ls := [some (va_rf (some x)), some (.int a1), some (va_rf a2), some (.int a3), none, none, none, none]) (by decide +kernel) (by simp only [zsl_r, zsl_i, zsl_l, zsl_n, zsl_a]; rfl) (by simp only [zar_r, zar_i, zar_l, zar_n, zar_a]; rfl) ?_
  refine V_iload1 eX0_join_0 ?_
  refine V_iload1 eX0_join_1 ?_
  refine V_iconst (v := 1) (by decide) eX0_join_2 ?_
  refine V_isub eX0_join_3 ?_
  refine V_iand eX0_join_4 ?_
  refine V_ifne eX0_join_5 (fun q => ?_) (fun q => ?_)
  · have H := zif_f q H
    refine V_iload1 eX0_join_10 ?_
    refine V_iload1 eX0_join_11 ?_
    refine V_ineg eX0_join_12 ?_
    refine V_iand eX0_join_13 ?_
    refine V_istore4 rfl eX0_join_14 rfl ?_
    refine V_iconst (v := 0) (by decide) eX0_join_16 ?_
    refine V_istore5 rfl eX0_join_17 rfl ?_
    exact V_fg2 (b_X0_join_19 _ _ _ _ _ _ _ _ H) (zfg_n (zfg_k (zfg_k (zfg_k (zfg_k (zfg_k (zfg_n (zfg_n zfg_e))))))))
  · have H := zif_t q H
    refine V_iconst (v := 1) (by decide) eX0_join_8 ?_
    obtain ⟨q, H⟩ := zgd_ok H
    obtain ⟨rfl, rfl, rfl, rfl⟩ := zrt_ok H
    exact V_zreturn eX0_join_9 rfl q ⟨rfl, rfl⟩
