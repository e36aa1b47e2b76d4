set_option maxRecDepth 100000
def d_X0_price_128 (w : Wd) (F : Nat) (k94 : Int32 → M Int32) (x : Nat) (a2 : Option Nat) (a3 : Int32) (a6 : Int32) : M Int32 :=
  k94 (a6 + (-1 : Int32))
def B_X0_price_94 (w : Wd) (F : Nat) (k94 : Int32 → M Int32) (x : Nat) (a2 : Option Nat) (a3 : Int32) (a6 : Int32) : M Int32 :=
  zif (a6 < 0) (zrt a3)
  (zbd (zgR f_X0_standing (some x)) fun v6 =>
  zbd (zv1 30 v6 (fun a => o_J2_get w F a a6)) fun v7 =>
  zbd (zcc y_X20 v7) fun _ =>
  zbd (zgR f_X20_scheme v7) fun v8 =>
  zif (v8 = a2) (zbd (zgR f_X0_standing (some x)) fun v9 =>
  zbd (zv1 30 v9 (fun a => o_J2_remove_2 w F a a6)) fun v10 =>
  d_X0_price_128 w F k94 x a2 a3 a6)
  (d_X0_price_128 w F k94 x a2 a3 a6))
def d_X0_price_94 (w : Wd) (F : Nat) (x : Nat) (a2 : Option Nat) (a3 : Int32) : Nat → Int32 → M Int32
  | 0, _ => zno
  | n + 1, a6 => B_X0_price_94 w F (d_X0_price_94 w F x a2 a3 n) x a2 a3 a6
def d_X0_price_83 (w : Wd) (F : Nat) (x : Nat) (a2 : Option Nat) (a3 : Int32) : M Int32 :=
  zbd (zgR f_X0_standing (some x)) fun v4 =>
  zbd (zv1 30 v4 (fun a => o_J2_size w F a)) fun v5 =>
  d_X0_price_94 w F x a2 a3 F (v5 - (1 : Int32))
def B_X0_price_30 (w : Wd) (F : Nat) (k30 : Int32 → Option Nat → Option Nat → M Int32) (x : Nat) (a2 : Option Nat) (a3 : Int32) (a4 : Option Nat) (a5 : Option Nat) : M Int32 :=
  zif (a4 = none) (d_X0_price_83 w F x a2 a3)
  (zif (a5 = none) (d_X0_price_83 w F x a2 a3)
  (zbd (zgI f_X20_price a5) fun v4 =>
  zbd (zgI f_X20_price a4) fun v5 =>
  zif (v4 < v5) (d_X0_price_83 w F x a2 a3)
  (zbd (zv1 0 (some x) (fun a => o_X0_goes w F a a4 a5)) fun v6 =>
  zbd (zv1 0 (some x) (fun a => o_X0_best w F a a2 (0 : Int32))) fun v7 =>
  zbd (zv1 0 (some x) (fun a => o_X0_best w F a a2 (1 : Int32))) fun v8 =>
  k30 (a3 + v6) v7 v8)))
def d_X0_price_30 (w : Wd) (F : Nat) (x : Nat) (a2 : Option Nat) : Nat → Int32 → Option Nat → Option Nat → M Int32
  | 0, _, _, _ => zno
  | n + 1, a3, a4, a5 => B_X0_price_30 w F (d_X0_price_30 w F x a2 n) x a2 a3 a4 a5
def o_X0_price (w : Wd) (F : Nat) (x : Nat) (a1 : Int32) : M Int32 :=
  zbd (zv1 0 (some x) (fun a => o_X0_schemeAt w F a a1)) fun v1 =>
  zif (v1 = none) (zrt (-1 : Int32))
  (zbd (zv1 0 (some x) (fun a => o_X0_best w F a v1 (0 : Int32))) fun v2 =>
  zbd (zv1 0 (some x) (fun a => o_X0_best w F a v1 (1 : Int32))) fun v3 =>
  d_X0_price_30 w F x v1 F (0 : Int32) v2 v3)
theorem b_X0_price_128 {w : Wd} {F : Nat} {k94 : Int32 → M Int32} {x : Nat} {a2 : Option Nat} {a3 : Int32} (hk94 : ∀ (a6 : Int32) (h : Hp) (y : Int32) (h1 : Hp) (c s : Nat), k94 a6 h = some (y, h1, c, s) → V w mX0_price cX0_price 5 c s h 94 [some (va_rf (some x)), none, some (va_rf a2), some (.int a3), none, none, some (.int a6)] [] (Ro (oI y) h1)) {a6 : Int32} {h h1 : Hp} {y : Int32} {c s : Nat} (H : d_X0_price_128 w F k94 x a2 a3 a6 h = some (y, h1, c, s)) : V w mX0_price cX0_price 5 c s h 128 [some (va_rf (some x)), none, some (va_rf a2), some (.int a3), none, none, some (.int a6)] [] (Ro (oI y) h1) := by
  unfold d_X0_price_128 at H
  refine V_iinc6 rfl eX0_price_128 rfl (v := -1) (by decide) ?_
  refine V_goto eX0_price_131 ?_
  exact V_fg2 (hk94 _ _ _ _ _ _ H) (zfg_k (zfg_n (zfg_k (zfg_k (zfg_n (zfg_n (zfg_k zfg_e)))))))
theorem bB_X0_price_94 {w : Wd} {F : Nat} {k94 : Int32 → M Int32} {x : Nat} {a2 : Option Nat} {a3 : Int32} (hk94 : ∀ (a6 : Int32) (h : Hp) (y : Int32) (h1 : Hp) (c s : Nat), k94 a6 h = some (y, h1, c, s) → V w mX0_price cX0_price 5 c s h 94 [some (va_rf (some x)), none, some (va_rf a2), some (.int a3), none, none, some (.int a6)] [] (Ro (oI y) h1)) {a6 : Int32} {h h1 : Hp} {y : Int32} {c s : Nat} (H : B_X0_price_94 w F k94 x a2 a3 a6 h = some (y, h1, c, s)) : V w mX0_price cX0_price 5 c s h 94 [some (va_rf (some x)), none, some (va_rf a2), some (.int a3), none, none, some (.int a6)] [] (Ro (oI y) h1) := by
  unfold B_X0_price_94 at H
  refine V_iload6 eX0_price_94 ?_
  refine V_iflt eX0_price_96 (fun q => ?_) (fun q => ?_)
  · have H := zif_t q H
    refine V_iload3 eX0_price_134 ?_
    obtain ⟨rfl, rfl, rfl, rfl⟩ := zrt_ok H
    exact V_ireturn eX0_price_135 rfl ⟨rfl, rfl⟩
  · have H := zif_f q H
    refine V_aload0 eX0_price_99 (zrf_rf _) ?_
    refine D_gR eX0_price_100 fq_X0_169_tR H (fun v6 H => ?_)
    refine V_iload6 eX0_price_103 ?_
    refine D_callR (pc' := 108) (st := []) H (fun v h' c1 s1 e cb sb k => ?_) (fun v7 h c s H => ?_)
    · obtain ⟨a, hr, ha, hk, e9⟩ := zv1_ok e
      cases hr
      exact V_invokevirtual (k := 30) eX0_price_105 lmJ2_get q160 q161 rfl rfl q162 ha hk (c_J2_get e9) (hRet_oR _ _) rfl rfl rfl rfl (kOR k)
    refine D_cast eX0_price_108 q1334 y_X20_ok H (fun H => ?_)
    refine D_gR eX0_price_111 fq_X0_422_tR H (fun v8 H => ?_)
    refine V_aload2 eX0_price_114 (zrf_rf _) ?_
    refine V_if_acmpne eX0_price_115 (fun q => ?_) (fun q => ?_)
    · have H := zif_f q H
      exact V_fg2 (b_X0_price_128 hk94 H) (zfg_k (zfg_n (zfg_k (zfg_k (zfg_n (zfg_n (zfg_k zfg_e)))))))
    · have H := zif_t q H
      refine V_aload0 eX0_price_118 (zrf_rf _) ?_
      refine D_gR eX0_price_119 fq_X0_169_tR H (fun v9 H => ?_)
      refine V_iload6 eX0_price_122 ?_
      refine D_callR (pc' := 127) (st := []) H (fun v h' c1 s1 e cb sb k => ?_) (fun v10 h c s H => ?_)
      · obtain ⟨a, hr, ha, hk, e9⟩ := zv1_ok e
        cases hr
        exact V_invokevirtual (k := 30) eX0_price_124 lmJ2_remove_2 q1430 q1431 rfl rfl q1432 ha hk (c_J2_remove_2 e9) (hRet_oR _ _) rfl rfl rfl rfl (kOR k)
      refine V_pop (zcr _) eX0_price_127 ?_
      exact V_fg2 (b_X0_price_128 hk94 H) (zfg_k (zfg_n (zfg_k (zfg_k (zfg_n (zfg_n (zfg_k zfg_e)))))))
theorem b_X0_price_94 {w : Wd} {F : Nat} {x : Nat} {a2 : Option Nat} {a3 : Int32} : ∀ (n : Nat) (a6 : Int32) (h : Hp) (y : Int32) (h1 : Hp) (c s : Nat), d_X0_price_94 w F x a2 a3 n a6 h = some (y, h1, c, s) → V w mX0_price cX0_price 5 c s h 94 [some (va_rf (some x)), none, some (va_rf a2), some (.int a3), none, none, some (.int a6)] [] (Ro (oI y) h1) := by
  intro n
  induction n with
  | zero => intro a6 h y h1 c s H; exact zno_no H
  | succ n ih => intro a6 h y h1 c s H; exact bB_X0_price_94 ih H
theorem b_X0_price_83 {w : Wd} {F : Nat} {x : Nat} {a2 : Option Nat} {a3 : Int32} {h h1 : Hp} {y : Int32} {c s : Nat} (H : d_X0_price_83 w F x a2 a3 h = some (y, h1, c, s)) : V w mX0_price cX0_price 5 c s h 83 [some (va_rf (some x)), none, some (va_rf a2), some (.int a3), none, none, none] [] (Ro (oI y) h1) := by
  unfold d_X0_price_83 at H
  refine V_aload0 eX0_price_83 (zrf_rf _) ?_
  refine D_gR eX0_price_84 fq_X0_169_tR H (fun v4 H => ?_)
  refine D_callI (pc' := 90) (st := []) H (fun v h' c1 s1 e cb sb k => ?_) (fun v5 h c s H => ?_)
  · obtain ⟨a, hr, ha, hk, e9⟩ := zv1_ok e
    cases hr
    exact V_invokevirtual (k := 30) eX0_price_87 lmJ2_size q156 q157 rfl rfl q158 ha hk (c_J2_size e9) (hRet_oI _ _) rfl rfl rfl rfl (kOI k)
  refine V_iconst (v := 1) (by decide) eX0_price_90 ?_
  refine V_isub eX0_price_91 ?_
  refine V_istore6 rfl eX0_price_92 rfl ?_
  exact V_fg2 (b_X0_price_94 _ _ _ _ _ _ _ H) (zfg_k (zfg_n (zfg_k (zfg_k (zfg_n (zfg_n (zfg_k zfg_e)))))))
theorem bB_X0_price_30 {w : Wd} {F : Nat} {k30 : Int32 → Option Nat → Option Nat → M Int32} {x : Nat} {a2 : Option Nat} (hk30 : ∀ (a3 : Int32) (a4 : Option Nat) (a5 : Option Nat) (h : Hp) (y : Int32) (h1 : Hp) (c s : Nat), k30 a3 a4 a5 h = some (y, h1, c, s) → V w mX0_price cX0_price 5 c s h 30 [some (va_rf (some x)), none, some (va_rf a2), some (.int a3), some (va_rf a4), some (va_rf a5), none] [] (Ro (oI y) h1)) {a3 : Int32} {a4 : Option Nat} {a5 : Option Nat} {h h1 : Hp} {y : Int32} {c s : Nat} (H : B_X0_price_30 w F k30 x a2 a3 a4 a5 h = some (y, h1, c, s)) : V w mX0_price cX0_price 5 c s h 30 [some (va_rf (some x)), none, some (va_rf a2), some (.int a3), some (va_rf a4), some (va_rf a5), none] [] (Ro (oI y) h1) := by
  unfold B_X0_price_30 at H
  refine V_aload4 eX0_price_30 (zrf_rf _) ?_
  refine V_ifnull eX0_price_32 (fun q => ?_) (fun a q => ?_)
  · have H := zif_t q H
    exact V_fg2 (b_X0_price_83 H) (zfg_k (zfg_n (zfg_k (zfg_k (zfg_n (zfg_n (zfg_n zfg_e)))))))
  · have H := zif_f (zsn q) H
    refine V_aload5 eX0_price_35 (zrf_rf _) ?_
    refine V_ifnull eX0_price_37 (fun q => ?_) (fun a q => ?_)
    · have H := zif_t q H
      exact V_fg2 (b_X0_price_83 H) (zfg_k (zfg_n (zfg_k (zfg_k (zfg_n (zfg_n (zfg_n zfg_e)))))))
    · have H := zif_f (zsn q) H
      refine V_aload5 eX0_price_40 (zrf_rf _) ?_
      refine D_gI eX0_price_42 fq_X0_437_tI H (fun v4 H => ?_)
      refine V_aload4 eX0_price_45 (zrf_rf _) ?_
      refine D_gI eX0_price_47 fq_X0_437_tI H (fun v5 H => ?_)
      refine V_if_icmplt eX0_price_50 (fun q => ?_) (fun q => ?_)
      · have H := zif_t q H
        exact V_fg2 (b_X0_price_83 H) (zfg_k (zfg_n (zfg_k (zfg_k (zfg_n (zfg_n (zfg_n zfg_e)))))))
      · have H := zif_f q H
        refine V_iload3 eX0_price_53 ?_
        refine V_aload0 eX0_price_54 (zrf_rf _) ?_
        refine V_aload4 eX0_price_55 (zrf_rf _) ?_
        refine V_aload5 eX0_price_57 (zrf_rf _) ?_
        refine D_callI (pc' := 62) (st := [.int a3]) H (fun v h' c1 s1 e cb sb k => ?_) (fun v6 h c s H => ?_)
        · obtain ⟨a, hr, ha, hk, e9⟩ := zv1_ok e
          cases hr
          exact V_invokevirtual (k := 0) eX0_price_59 lmX0_goes q1374 q1376 rfl rfl qs40 ha hk (c_X0_goes e9) (hRet_oI _ _) rfl rfl rfl rfl (kOI k)
        refine V_iadd eX0_price_62 ?_
        refine V_istore3 (znl_rf _) eX0_price_63 rfl ?_
        refine V_aload0 eX0_price_64 (zrf_rf _) ?_
        refine V_aload2 eX0_price_65 (zrf_rf _) ?_
        refine V_iconst (v := 0) (by decide) eX0_price_66 ?_
        refine D_callR (pc' := 70) (st := []) H (fun v h' c1 s1 e cb sb k => ?_) (fun v7 h c s H => ?_)
        · obtain ⟨a, hr, ha, hk, e9⟩ := zv1_ok e
          cases hr
          exact V_invokevirtual (k := 0) eX0_price_67 lmX0_best q1366 q1368 rfl rfl qs39 ha hk (c_X0_best e9) (hRet_oR _ _) rfl rfl rfl rfl (kOR k)
        refine V_astore4 rfl eX0_price_70 rfl (zrf_rf _) ?_
        refine V_aload0 eX0_price_72 (zrf_rf _) ?_
        refine V_aload2 eX0_price_73 (zrf_rf _) ?_
        refine V_iconst (v := 1) (by decide) eX0_price_74 ?_
        refine D_callR (pc' := 78) (st := []) H (fun v h' c1 s1 e cb sb k => ?_) (fun v8 h c s H => ?_)
        · obtain ⟨a, hr, ha, hk, e9⟩ := zv1_ok e
          cases hr
          exact V_invokevirtual (k := 0) eX0_price_75 lmX0_best q1366 q1368 rfl rfl qs39 ha hk (c_X0_best e9) (hRet_oR _ _) rfl rfl rfl rfl (kOR k)
        refine V_astore5 (znl_rf _) eX0_price_78 rfl (zrf_rf _) ?_
        refine V_goto eX0_price_80 ?_
        exact V_fg2 (hk30 _ _ _ _ _ _ _ _ H) (zfg_k (zfg_n (zfg_k (zfg_k (zfg_k (zfg_k (zfg_n zfg_e)))))))
theorem b_X0_price_30 {w : Wd} {F : Nat} {x : Nat} {a2 : Option Nat} : ∀ (n : Nat) (a3 : Int32) (a4 : Option Nat) (a5 : Option Nat) (h : Hp) (y : Int32) (h1 : Hp) (c s : Nat), d_X0_price_30 w F x a2 n a3 a4 a5 h = some (y, h1, c, s) → V w mX0_price cX0_price 5 c s h 30 [some (va_rf (some x)), none, some (va_rf a2), some (.int a3), some (va_rf a4), some (va_rf a5), none] [] (Ro (oI y) h1) := by
  intro n
  induction n with
  | zero => intro a3 a4 a5 h y h1 c s H; exact zno_no H
  | succ n ih => intro a3 a4 a5 h y h1 c s H; exact bB_X0_price_30 ih H
theorem c_X0_price {w : Wd} {F : Nat} {x : Nat} {a1 : Int32} {h h1 : Hp} {y : Int32} {c s : Nat} (H : o_X0_price w F x a1 h = some (y, h1, c, s)) : Con w mX0_price cX0_price 5 c s [.ref x, .int a1] h (Ro (oI y) h1) := by
  unfold o_X0_price at H
  refine Con.of (ls := [some (va_rf (some x)), some (.int a1), none, none, none, none, none]) (by decide +kernel) rfl rfl ?_
  refine V_aload0 eX0_price_0 (zrf_rf _) ?_
  refine V_iload1 eX0_price_1 ?_
  refine D_callR (pc' := 5) (st := []) H (fun v h' c1 s1 e cb sb k => ?_) (fun v1 h c s H => ?_)
  · obtain ⟨a, hr, ha, hk, e9⟩ := zv1_ok e
    cases hr
    exact V_invokevirtual (k := 0) eX0_price_2 lmX0_schemeAt q802 q804 rfl rfl qs21 ha hk (c_X0_schemeAt e9) (hRet_oR _ _) rfl rfl rfl rfl (kOR k)
  refine V_astore2 rfl eX0_price_5 rfl (zrf_rf _) ?_
  refine V_aload2 eX0_price_6 (zrf_rf _) ?_
  refine V_ifnonnull eX0_price_7 (fun a q => ?_) (fun q => ?_)
  · have H := zif_f (zsn q) H
    refine V_iconst (v := 0) (by decide) eX0_price_12 ?_
    refine V_istore3 (znl_rf _) eX0_price_13 rfl ?_
    refine V_aload0 eX0_price_14 (zrf_rf _) ?_
    refine V_aload2 eX0_price_15 (zrf_rf _) ?_
    refine V_iconst (v := 0) (by decide) eX0_price_16 ?_
    refine D_callR (pc' := 20) (st := []) H (fun v h' c1 s1 e cb sb k => ?_) (fun v2 h c s H => ?_)
    · obtain ⟨a, hr, ha, hk, e9⟩ := zv1_ok e
      cases hr
      exact V_invokevirtual (k := 0) eX0_price_17 lmX0_best q1366 q1368 rfl rfl qs39 ha hk (c_X0_best e9) (hRet_oR _ _) rfl rfl rfl rfl (kOR k)
    refine V_astore4 rfl eX0_price_20 rfl (zrf_rf _) ?_
    refine V_aload0 eX0_price_22 (zrf_rf _) ?_
    refine V_aload2 eX0_price_23 (zrf_rf _) ?_
    refine V_iconst (v := 1) (by decide) eX0_price_24 ?_
    refine D_callR (pc' := 28) (st := []) H (fun v h' c1 s1 e cb sb k => ?_) (fun v3 h c s H => ?_)
    · obtain ⟨a, hr, ha, hk, e9⟩ := zv1_ok e
      cases hr
      exact V_invokevirtual (k := 0) eX0_price_25 lmX0_best q1366 q1368 rfl rfl qs39 ha hk (c_X0_best e9) (hRet_oR _ _) rfl rfl rfl rfl (kOR k)
    refine V_astore5 (znl_rf _) eX0_price_28 rfl (zrf_rf _) ?_
    exact V_fg2 (b_X0_price_30 _ _ _ _ _ _ _ _ _ H) (zfg_k (zfg_n (zfg_k (zfg_k (zfg_k (zfg_k (zfg_n zfg_e)))))))
  · have H := zif_t q H
    refine V_iconst (v := -1) (by decide) eX0_price_10 ?_
    obtain ⟨rfl, rfl, rfl, rfl⟩ := zrt_ok H
    exact V_ireturn eX0_price_11 rfl ⟨rfl, rfl⟩
theorem fq_X0_446_tI : FQ RX0 446 f_X13_price tI := by
  intro k j e
  unfold f_X13_price at e
  split at e
  · cases e; exact ⟨fl_X0_446_13, Or.inl rfl⟩
  · cases e; exact ⟨fl_X0_446_15, Or.inl rfl⟩
  · cases e; exact ⟨fl_X0_446_18, Or.inl rfl⟩
  · cases e
def d_X0_read_20 (w : Wd) (F : Nat) (s0 : Int32) : M Int32 :=
  zrt s0
def o_X0_read (w : Wd) (F : Nat) (x : Nat) (a1 : Int32) : M Int32 :=
  zbd (zv1 0 (some x) (fun a => o_X0_schemeAt w F a a1)) fun v1 =>
  zif (v1 = none) (d_X0_read_20 w F (-1 : Int32))
  (zbd (zv1 0 (some x) (fun a => o_X0_schemeAt w F a a1)) fun v2 =>
  zbd (zgI f_X13_price v2) fun v3 =>
  d_X0_read_20 w F v3)
theorem b_X0_read_20 {w : Wd} {F : Nat} {s0 : Int32} {h h1 : Hp} {y : Int32} {c s : Nat} (H : d_X0_read_20 w F s0 h = some (y, h1, c, s)) : V w mX0_read cX0_read 5 c s h 20 [none, none] [.int s0] (Ro (oI y) h1) := by
  unfold d_X0_read_20 at H
  obtain ⟨rfl, rfl, rfl, rfl⟩ := zrt_ok H
  exact V_ireturn eX0_read_20 rfl ⟨rfl, rfl⟩
theorem c_X0_read {w : Wd} {F : Nat} {x : Nat} {a1 : Int32} {h h1 : Hp} {y : Int32} {c s : Nat} (H : o_X0_read w F x a1 h = some (y, h1, c, s)) : Con w mX0_read cX0_read 5 c s [.ref x, .int a1] h (Ro (oI y) h1) := by
  unfold o_X0_read at H
  refine Con.of (ls := [some (va_rf (some x)), some (.int a1)]) (by decide +kernel) rfl rfl ?_
  refine V_aload0 eX0_read_0 (zrf_rf _) ?_
  refine V_iload1 eX0_read_1 ?_
  refine D_callR (pc' := 5) (st := []) H (fun v h' c1 s1 e cb sb k => ?_) (fun v1 h c s H => ?_)
  · obtain ⟨a, hr, ha, hk, e9⟩ := zv1_ok e
    cases hr
    exact V_invokevirtual (k := 0) eX0_read_2 lmX0_schemeAt q802 q804 rfl rfl qs21 ha hk (c_X0_schemeAt e9) (hRet_oR _ _) rfl rfl rfl rfl (kOR k)
  refine V_ifnonnull eX0_read_5 (fun a q => ?_) (fun q => ?_)
  · have H := zif_f (zsn q) H
    refine V_aload0 eX0_read_12 (zrf_rf _) ?_
    refine V_iload1 eX0_read_13 ?_
    refine D_callR (pc' := 17) (st := []) H (fun v h' c1 s1 e cb sb k => ?_) (fun v2 h c s H => ?_)
    · obtain ⟨a, hr, ha, hk, e9⟩ := zv1_ok e
      cases hr
      exact V_invokevirtual (k := 0) eX0_read_14 lmX0_schemeAt q802 q804 rfl rfl qs21 ha hk (c_X0_schemeAt e9) (hRet_oR _ _) rfl rfl rfl rfl (kOR k)
    refine D_gI eX0_read_17 fq_X0_446_tI H (fun v3 H => ?_)
    exact V_fg2 (b_X0_read_20 H) (zfg_n (zfg_n zfg_e))
  · have H := zif_t q H
    refine V_iconst (v := -1) (by decide) eX0_read_8 ?_
    refine V_goto eX0_read_9 ?_
    exact V_fg2 (b_X0_read_20 H) (zfg_n (zfg_n zfg_e))
theorem fn_X21_init_7 : FN mX21_init 7 f_X21_scheme := by
  intro k j e
  unfold f_X21_scheme at e
  split at e
  · cases e; exact Or.inr ⟨rfl, rfl, rfl, _, q1448, rfl⟩
  · cases e; exact Or.inr ⟨rfl, rfl, rfl, _, q1448, rfl⟩
  · cases e
theorem fq_X21_13_tN : FQ RX21 13 f_X21_pence tN := by
  intro k j e
  unfold f_X21_pence at e
  split at e
  · cases e; exact ⟨fl_X21_13_21, rfl⟩
  · cases e; exact ⟨fl_X21_13_22, rfl⟩
  · cases e
theorem fn_X21_init_13 : FN mX21_init 13 f_X21_pence := by
  intro k j e
  unfold f_X21_pence at e
  split at e
  · cases e; exact Or.inr ⟨rfl, rfl, rfl, _, q1450, rfl⟩
  · cases e; exact Or.inr ⟨rfl, rfl, rfl, _, q1450, rfl⟩
  · cases e
def o_X21_init (w : Wd) (F : Nat) (x : Nat) (a1 : Int32) (a2 : Int32) (a3 : Option Nat) (a4 : Int32) : M Unit :=
  zbd (o_X12_init w F x a1 a2) fun _ =>
  zbd (zpR f_X21_scheme (some x) a3) fun _ =>
  zbd (zpI f_X21_pence (some x) a4) fun _ =>
  zrt ()
theorem c_X21_init {w : Wd} {F : Nat} {x : Nat} {a1 : Int32} {a2 : Int32} {a3 : Option Nat} {a4 : Int32} {h h1 : Hp} {y : Unit} {c s : Nat} (H : o_X21_init w F x a1 a2 a3 a4 h = some (y, h1, c, s)) : Con w mX21_init cX21_init 2 c s [.ref x, .int a1, .int a2, va_rf a3, .int a4] h (Ro (oU y) h1) := by
  unfold o_X21_init at H
  refine Con.of (ls := [some (va_rf (some x)), some (.int a1), some (.int a2), some (va_rf a3), some (.int a4)]) (by decide +kernel) (by simp only [zsl_r, zsl_i, zsl_l, zsl_n, zsl_a]; rfl) (by simp only [zar_r, zar_i, zar_l, zar_n, zar_a]; rfl) ?_
  refine V_aload0 eX21_init_0 (zrf_rf _) ?_
  refine V_iload1 eX21_init_1 ?_
  refine V_iload2 eX21_init_2 ?_
  refine D_callU (pc' := 6) (st := []) H (fun v h' c1 s1 e cb sb k => ?_) (fun v1 h c s H => ?_)
  · exact V_invokeinit eX21_init_3 lmX12_init rfl rfl q1447 q715 (c_X12_init e) (hRet_oU _ _) rfl rfl rfl rfl (kOU k)
  refine V_aload0 eX21_init_6 (zrf_rf _) ?_
  refine V_aload3 eX21_init_7 (zrf_rf _) ?_
  refine D_pR eX21_init_8 fq_X21_7_tR fn_X21_init_7 H (fun h H => ?_)
  refine V_aload0 eX21_init_11 (zrf_rf _) ?_
  refine V_iload4 eX21_init_12 ?_
  refine D_pI eX21_init_14 fq_X21_13_tN fn_X21_init_13 H (fun h H => ?_)
  obtain ⟨rfl, rfl, rfl, rfl⟩ := zrt_ok H
  exact V_return (x := ()) eX21_init_17 rfl ⟨rfl, rfl⟩
theorem fq_X0_457_tI : FQ RX0 457 f_X13_calledOn tI := by
  intro k j e
  unfold f_X13_calledOn at e
  split at e
  · cases e; exact ⟨fl_X0_457_13, Or.inl rfl⟩
  · cases e; exact ⟨fl_X0_457_15, Or.inl rfl⟩
  · cases e; exact ⟨fl_X0_457_18, Or.inl rfl⟩
  · cases e
theorem fq_X0_457_tN : FQ RX0 457 f_X13_calledOn tN := by
  intro k j e
  unfold f_X13_calledOn at e
  split at e
  · cases e; exact ⟨fl_X0_457_13, rfl⟩
  · cases e; exact ⟨fl_X0_457_15, rfl⟩
  · cases e; exact ⟨fl_X0_457_18, rfl⟩
  · cases e
theorem fn_X0_call_457 : FN mX0_call 457 f_X13_calledOn := by
  intro k j e
  unfold f_X13_calledOn at e
  split at e
  · cases e; exact Or.inl rfl
  · cases e; exact Or.inl rfl
  · cases e; exact Or.inl rfl
  · cases e
def d_X0_call_68 (w : Wd) (F : Nat) : M Int32 :=
  zrt (-3 : Int32)
def d_X0_call_71 (w : Wd) (F : Nat) (x : Nat) (a2 : Int32) (a3 : Option Nat) : M Int32 :=
  zbd (zv1 0 (some x) (fun a => o_X0_isFull w F a)) fun v7 =>
  zif (v7 = 0) (zbd (zgI f_X0_today (some x)) fun v8 =>
  zbd (zpI f_X13_calledOn a3 v8) fun _ =>
  zbd (znw 21 0 5) fun n9 =>
  zbd (zgR f_X0_papers (some x)) fun v10 =>
  zbd (zv1 30 v10 (fun a => o_J2_size w F a)) fun v11 =>
  zbd (zgI f_X0_today (some x)) fun v12 =>
  zbd (znn n9 (fun a => o_X21_init w F a v11 v12 a3 a2)) fun _ =>
  zbd (zv1 0 (some x) (fun a => o_X0_add w F a n9)) fun v14 =>
  zrt v14)
  (zrt (-4 : Int32))
def o_X0_call (w : Wd) (F : Nat) (x : Nat) (a1 : Int32) (a2 : Int32) : M Int32 :=
  zbd (zv1 0 (some x) (fun a => o_X0_schemeAt w F a a1)) fun v1 =>
  zif (v1 = none) (zrt (-1 : Int32))
  (zbd (zgI f_X0_today (some x)) fun v2 =>
  zbd (zv1 0 (some x) (fun a => o_X0_rule w F a (3 : Int32) v2)) fun v3 =>
  zbd (o_X0_in w F a2 (1 : Int32) v3) fun v4 =>
  zif (v4 = 0) (zrt (-2 : Int32))
  (zbd (zgI f_X13_fallen v1) fun v5 =>
  zif (v5 = 0) (zbd (zgI f_X13_calledOn v1) fun v6 =>
  zif (v6 = (-1 : Int32)) (d_X0_call_71 w F x a2 v1)
  (zbd (zgI f_X0_today (some x)) fun v7 =>
  zbd (zgI f_X13_calledOn v1) fun v8 =>
  zbd (zgI f_X0_today (some x)) fun v9 =>
  zbd (zv1 0 (some x) (fun a => o_X0_rule w F a (4 : Int32) v9)) fun v10 =>
  zif (v10 ≤ (v7 - v8)) (d_X0_call_71 w F x a2 v1)
  (d_X0_call_68 w F)))
  (d_X0_call_68 w F)))
theorem b_X0_call_68 {w : Wd} {F : Nat} {h h1 : Hp} {y : Int32} {c s : Nat} (H : d_X0_call_68 w F h = some (y, h1, c, s)) : V w mX0_call cX0_call 8 c s h 68 [none, none, none, none] [] (Ro (oI y) h1) := by
  unfold d_X0_call_68 at H
  refine V_bipush (v := -3) (by decide) eX0_call_68 ?_
  obtain ⟨rfl, rfl, rfl, rfl⟩ := zrt_ok H
  exact V_ireturn eX0_call_70 rfl ⟨rfl, rfl⟩
theorem b_X0_call_71 {w : Wd} {F : Nat} {x : Nat} {a2 : Int32} {a3 : Option Nat} {h h1 : Hp} {y : Int32} {c s : Nat} (H : d_X0_call_71 w F x a2 a3 h = some (y, h1, c, s)) : V w mX0_call cX0_call 8 c s h 71 [some (va_rf (some x)), none, some (.int a2), some (va_rf a3)] [] (Ro (oI y) h1) := by
  unfold d_X0_call_71 at H
  refine V_aload0 eX0_call_71 (zrf_rf _) ?_
  refine D_callI (pc' := 75) (st := []) H (fun v h' c1 s1 e cb sb k => ?_) (fun v7 h c s H => ?_)
  · obtain ⟨a, hr, ha, hk, e9⟩ := zv1_ok e
    cases hr
    exact V_invokevirtual (k := 0) eX0_call_72 lmX0_isFull q705 q707 rfl rfl qs19 ha hk (c_X0_isFull e9) (hRet_oI _ _) rfl rfl rfl rfl (kOI k)
  refine V_ifeq eX0_call_75 (fun q => ?_) (fun q => ?_)
  · have H := zif_t q H
    refine V_aload3 eX0_call_81 (zrf_rf _) ?_
    refine V_aload0 eX0_call_82 (zrf_rf _) ?_
    refine D_gI eX0_call_83 fq_X0_194_tI H (fun v8 H => ?_)
    refine D_pI eX0_call_86 fq_X0_457_tN fn_X0_call_457 H (fun h H => ?_)
    refine V_aload0 eX0_call_89 (zrf_rf _) ?_
    refine D_new (g := 0) eX0_call_90 nl_X0_460 rfl H (fun n9 h c s H => ?_)
    refine V_dup (zcr _) eX0_call_93 ?_
    refine V_aload0 eX0_call_94 (zrf_rf _) ?_
    refine D_gR eX0_call_95 fq_X0_121_tR H (fun v10 H => ?_)
    refine D_callI (pc' := 101) (st := [va_rf n9, va_rf n9, va_rf (some x)]) H (fun v h' c1 s1 e cb sb k => ?_) (fun v11 h c s H => ?_)
    · obtain ⟨a, hr, ha, hk, e9⟩ := zv1_ok e
      cases hr
      exact V_invokevirtual (k := 30) eX0_call_98 lmJ2_size q156 q157 rfl rfl q158 ha hk (c_J2_size e9) (hRet_oI _ _) rfl rfl rfl (by simp only [List.map_cons, List.map_nil, zcr]; rfl) (kOI k)
    refine V_aload0 eX0_call_101 (zrf_rf _) ?_
    refine D_gI eX0_call_102 fq_X0_194_tI H (fun v12 H => ?_)
    refine V_aload3 eX0_call_105 (zrf_rf _) ?_
    refine V_iload2 eX0_call_106 ?_
    refine D_callU (pc' := 110) (st := [va_rf n9, va_rf (some x)]) H (fun v h' c1 s1 e cb sb k => ?_) (fun v13 h c s H => ?_)
    · obtain ⟨a, hr, e9⟩ := znn_ok e
      cases hr
      exact V_invokeinit eX0_call_107 lmX21_init rfl rfl q1444 q1445 (c_X21_init e9) (hRet_oU _ _) rfl rfl rfl (by simp only [List.map_cons, List.map_nil, zcr]; rfl) (kOU k)
    refine D_callI (pc' := 113) (st := []) H (fun v h' c1 s1 e cb sb k => ?_) (fun v14 h c s H => ?_)
    · obtain ⟨a, hr, ha, hk, e9⟩ := zv1_ok e
      cases hr
      exact V_invokevirtual (k := 0) eX0_call_110 lmX0_add q793 q795 rfl rfl qs20 ha hk (c_X0_add e9) (hRet_oI _ _) rfl rfl rfl rfl (kOI k)
    obtain ⟨rfl, rfl, rfl, rfl⟩ := zrt_ok H
    exact V_ireturn eX0_call_113 rfl ⟨rfl, rfl⟩
  · have H := zif_f q H
    refine V_bipush (v := -4) (by decide) eX0_call_78 ?_
    obtain ⟨rfl, rfl, rfl, rfl⟩ := zrt_ok H
    exact V_ireturn eX0_call_80 rfl ⟨rfl, rfl⟩
theorem c_X0_call {w : Wd} {F : Nat} {x : Nat} {a1 : Int32} {a2 : Int32} {h h1 : Hp} {y : Int32} {c s : Nat} (H : o_X0_call w F x a1 a2 h = some (y, h1, c, s)) : Con w mX0_call cX0_call 8 c s [.ref x, .int a1, .int a2] h (Ro (oI y) h1) := by
  unfold o_X0_call at H
  refine Con.of (ls := [some (va_rf (some x)), some (.int a1), some (.int a2), none]) (by decide +kernel) rfl rfl ?_
  refine V_aload0 eX0_call_0 (zrf_rf _) ?_
  refine V_iload1 eX0_call_1 ?_
  refine D_callR (pc' := 5) (st := []) H (fun v h' c1 s1 e cb sb k => ?_) (fun v1 h c s H => ?_)
  · obtain ⟨a, hr, ha, hk, e9⟩ := zv1_ok e
    cases hr
    exact V_invokevirtual (k := 0) eX0_call_2 lmX0_schemeAt q802 q804 rfl rfl qs21 ha hk (c_X0_schemeAt e9) (hRet_oR _ _) rfl rfl rfl rfl (kOR k)
  refine V_astore3 rfl eX0_call_5 rfl (zrf_rf _) ?_
  refine V_aload3 eX0_call_6 (zrf_rf _) ?_
  refine V_ifnonnull eX0_call_7 (fun a q => ?_) (fun q => ?_)
  · have H := zif_f (zsn q) H
    refine V_iload2 eX0_call_12 ?_
    refine V_iconst (v := 1) (by decide) eX0_call_13 ?_
    refine V_aload0 eX0_call_14 (zrf_rf _) ?_
    refine V_iconst (v := 3) (by decide) eX0_call_15 ?_
    refine V_aload0 eX0_call_16 (zrf_rf _) ?_
    refine D_gI eX0_call_17 fq_X0_194_tI H (fun v2 H => ?_)
    refine D_callI (pc' := 23) (st := [.int (1 : Int32), .int a2]) H (fun v h' c1 s1 e cb sb k => ?_) (fun v3 h c s H => ?_)
    · obtain ⟨a, hr, ha, hk, e9⟩ := zv1_ok e
      cases hr
      exact V_invokevirtual (k := 0) eX0_call_20 lmX0_rule q529 q531 rfl rfl qs15 ha hk (c_X0_rule e9) (hRet_oI _ _) rfl rfl rfl rfl (kOI k)
    refine D_callI (pc' := 26) (st := []) H (fun v h' c1 s1 e cb sb k => ?_) (fun v4 h c s H => ?_)
    · exact V_invokestatic eX0_call_23 lmX0_in q149 q150 (c_X0_in e) (hRet_oI _ _) rfl rfl rfl rfl (kOI k)
    refine V_ifne eX0_call_26 (fun q => ?_) (fun q => ?_)
    · have H := zif_f q H
      refine V_aload3 eX0_call_32 (zrf_rf _) ?_
      refine D_gI eX0_call_33 fq_X0_407_tI H (fun v5 H => ?_)
      refine V_ifne eX0_call_36 (fun q => ?_) (fun q => ?_)
      · have H := zif_f q H
        exact V_fg2 (b_X0_call_68 H) (zfg_n (zfg_n (zfg_n (zfg_n zfg_e))))
      · have H := zif_t q H
        refine V_aload3 eX0_call_39 (zrf_rf _) ?_
        refine D_gI eX0_call_40 fq_X0_457_tI H (fun v6 H => ?_)
        refine V_iconst (v := -1) (by decide) eX0_call_43 ?_
        refine V_if_icmpeq eX0_call_44 (fun q => ?_) (fun q => ?_)
        · have H := zif_t q H
          exact V_fg2 (b_X0_call_71 H) (zfg_k (zfg_n (zfg_k (zfg_k zfg_e))))
        · have H := zif_f q H
          refine V_aload0 eX0_call_47 (zrf_rf _) ?_
          refine D_gI eX0_call_48 fq_X0_194_tI H (fun v7 H => ?_)
          refine V_aload3 eX0_call_51 (zrf_rf _) ?_
          refine D_gI eX0_call_52 fq_X0_457_tI H (fun v8 H => ?_)
          refine V_isub eX0_call_55 ?_
          refine V_aload0 eX0_call_56 (zrf_rf _) ?_
          refine V_iconst (v := 4) (by decide) eX0_call_57 ?_
          refine V_aload0 eX0_call_58 (zrf_rf _) ?_
          refine D_gI eX0_call_59 fq_X0_194_tI H (fun v9 H => ?_)
          refine D_callI (pc' := 65) (st := [.int (v7 - v8)]) H (fun v h' c1 s1 e cb sb k => ?_) (fun v10 h c s H => ?_)
          · obtain ⟨a, hr, ha, hk, e9⟩ := zv1_ok e
            cases hr
            exact V_invokevirtual (k := 0) eX0_call_62 lmX0_rule q529 q531 rfl rfl qs15 ha hk (c_X0_rule e9) (hRet_oI _ _) rfl rfl rfl rfl (kOI k)
          refine V_if_icmpge eX0_call_65 (fun q => ?_) (fun q => ?_)
          · have H := zif_t q H
            exact V_fg2 (b_X0_call_71 H) (zfg_k (zfg_n (zfg_k (zfg_k zfg_e))))
          · have H := zif_f q H
            exact V_fg2 (b_X0_call_68 H) (zfg_n (zfg_n (zfg_n (zfg_n zfg_e))))
    · have H := zif_t q H
      refine V_bipush (v := -2) (by decide) eX0_call_29 ?_
      obtain ⟨rfl, rfl, rfl, rfl⟩ := zrt_ok H
      exact V_ireturn eX0_call_31 rfl ⟨rfl, rfl⟩
  · have H := zif_t q H
    refine V_iconst (v := -1) (by decide) eX0_call_10 ?_
    obtain ⟨rfl, rfl, rfl, rfl⟩ := zrt_ok H
    exact V_ireturn eX0_call_11 rfl ⟨rfl, rfl⟩
theorem fq_X22_7_tN : FQ RX22 7 f_X22_holder tN := by
  intro k j e
  unfold f_X22_holder at e
  split at e
  · cases e; exact ⟨fl_X22_7_22, rfl⟩
  · cases e
theorem fn_X22_init_7 : FN mX22_init 7 f_X22_holder := by
  intro k j e
  unfold f_X22_holder at e
  split at e
  · cases e; exact Or.inr ⟨rfl, rfl, rfl, _, q1476, rfl⟩
  · cases e
def o_X22_init (w : Wd) (F : Nat) (x : Nat) (a1 : Int32) (a2 : Int32) (a3 : Option Nat) (a4 : Int32) (a5 : Int32) : M Unit :=
  zbd (o_X21_init w F x a1 a2 a3 a5) fun _ =>
  zbd (zpI f_X22_holder (some x) a4) fun _ =>
  zrt ()
theorem c_X22_init {w : Wd} {F : Nat} {x : Nat} {a1 : Int32} {a2 : Int32} {a3 : Option Nat} {a4 : Int32} {a5 : Int32} {h h1 : Hp} {y : Unit} {c s : Nat} (H : o_X22_init w F x a1 a2 a3 a4 a5 h = some (y, h1, c, s)) : Con w mX22_init cX22_init 3 c s [.ref x, .int a1, .int a2, va_rf a3, .int a4, .int a5] h (Ro (oU y) h1) := by
  unfold o_X22_init at H
  refine Con.of (ls := [some (va_rf (some x)), some (.int a1), some (.int a2), some (va_rf a3), some (.int a4), some (.int a5)]) (by decide +kernel) (by simp only [zsl_r, zsl_i, zsl_l, zsl_n, zsl_a]; rfl) (by simp only [zar_r, zar_i, zar_l, zar_n, zar_a]; rfl) ?_
  refine V_aload0 eX22_init_0 (zrf_rf _) ?_
  refine V_iload1 eX22_init_1 ?_
  refine V_iload2 eX22_init_2 ?_
  refine V_aload3 eX22_init_3 (zrf_rf _) ?_
  refine V_iload5 eX22_init_4 ?_
  refine D_callU (pc' := 9) (st := []) H (fun v h' c1 s1 e cb sb k => ?_) (fun v1 h c s H => ?_)
  · exact V_invokeinit eX22_init_6 lmX21_init rfl rfl q1475 q1445 (c_X21_init e) (hRet_oU _ _) rfl rfl rfl rfl (kOU k)
  refine V_aload0 eX22_init_9 (zrf_rf _) ?_
  refine V_iload4 eX22_init_10 ?_
  refine D_pI eX22_init_12 fq_X22_7_tN fn_X22_init_7 H (fun h H => ?_)
  obtain ⟨rfl, rfl, rfl, rfl⟩ := zrt_ok H
  exact V_return (x := ()) eX22_init_15 rfl ⟨rfl, rfl⟩
theorem fn_X0_lend_415 : FN mX0_lend 415 f_X13_coins := by
  intro k j e
  unfold f_X13_coins at e
  split at e
  · cases e; exact Or.inl rfl
  · cases e; exact Or.inl rfl
  · cases e; exact Or.inl rfl
  · cases e
def d_X0_lend_19 (w : Wd) (F : Nat) : M Int32 :=
  zrt (-1 : Int32)
def d_X0_lend_55 (w : Wd) (F : Nat) : M Int32 :=
  zrt (-3 : Int32)
def o_X0_lend (w : Wd) (F : Nat) (x : Nat) (a1 : Int32) (a2 : Int32) (a3 : Int32) : M Int32 :=
  zbd (zv1 0 (some x) (fun a => o_X0_schemeAt w F a a1)) fun v1 =>
  zif (v1 = none) (d_X0_lend_19 w F)
  (zbd (o_X0_isHolder w F a2) fun v2 =>
  zif (v2 = 0) (d_X0_lend_19 w F)
  (zbd (o_X0_in w F a3 (1 : Int32) (9999 : Int32)) fun v3 =>
  zif (v3 = 0) (zrt (-2 : Int32))
  (zbd (zgI f_X13_fallen v1) fun v4 =>
  zif (v4 = 0) (zbd (zgR f_X0_coins (some x)) fun v5 =>
  zbd (zaL v5 a2) fun v6 =>
  zif (0 ≤ (lg_cmp v6 (a3).toInt64)) (zbd (zv1 0 (some x) (fun a => o_X0_isFull w F a)) fun v7 =>
  zif (v7 = 0) (zbd (zgR f_X0_coins (some x)) fun v8 =>
  zbd (zaL v8 a2) fun v9 =>
  zbd (zsL v8 a2 (v9 - (a3).toInt64)) fun _ =>
  zbd (zgL f_X13_coins v1) fun v10 =>
  zbd (zpL f_X13_coins v1 (v10 + (a3).toInt64)) fun _ =>
  zbd (znw 22 0 6) fun n11 =>
  zbd (zgR f_X0_papers (some x)) fun v12 =>
  zbd (zv1 30 v12 (fun a => o_J2_size w F a)) fun v13 =>
  zbd (zgI f_X0_today (some x)) fun v14 =>
  zbd (znn n11 (fun a => o_X22_init w F a v13 v14 v1 a2 a3)) fun _ =>
  zbd (zv1 0 (some x) (fun a => o_X0_add w F a n11)) fun v16 =>
  zrt v16)
  (zrt (-4 : Int32)))
  (d_X0_lend_55 w F))
  (d_X0_lend_55 w F))))
theorem b_X0_lend_19 {w : Wd} {F : Nat} {h h1 : Hp} {y : Int32} {c s : Nat} (H : d_X0_lend_19 w F h = some (y, h1, c, s)) : V w mX0_lend cX0_lend 8 c s h 19 [none, none, none, none, none] [] (Ro (oI y) h1) := by
  unfold d_X0_lend_19 at H
  refine V_iconst (v := -1) (by decide) eX0_lend_19 ?_
  obtain ⟨rfl, rfl, rfl, rfl⟩ := zrt_ok H
  exact V_ireturn eX0_lend_20 rfl ⟨rfl, rfl⟩
theorem b_X0_lend_55 {w : Wd} {F : Nat} {h h1 : Hp} {y : Int32} {c s : Nat} (H : d_X0_lend_55 w F h = some (y, h1, c, s)) : V w mX0_lend cX0_lend 8 c s h 55 [none, none, none, none, none] [] (Ro (oI y) h1) := by
  unfold d_X0_lend_55 at H
  refine V_bipush (v := -3) (by decide) eX0_lend_55 ?_
  obtain ⟨rfl, rfl, rfl, rfl⟩ := zrt_ok H
  exact V_ireturn eX0_lend_57 rfl ⟨rfl, rfl⟩
theorem c_X0_lend {w : Wd} {F : Nat} {x : Nat} {a1 : Int32} {a2 : Int32} {a3 : Int32} {h h1 : Hp} {y : Int32} {c s : Nat} (H : o_X0_lend w F x a1 a2 a3 h = some (y, h1, c, s)) : Con w mX0_lend cX0_lend 8 c s [.ref x, .int a1, .int a2, .int a3] h (Ro (oI y) h1) := by
  unfold o_X0_lend at H
  refine Con.of (ls := [some (va_rf (some x)), some (.int a1), some (.int a2), some (.int a3), none]) (by decide +kernel) rfl rfl ?_
  refine V_aload0 eX0_lend_0 (zrf_rf _) ?_
  refine V_iload1 eX0_lend_1 ?_
  refine D_callR (pc' := 5) (st := []) H (fun v h' c1 s1 e cb sb k => ?_) (fun v1 h c s H => ?_)
  · obtain ⟨a, hr, ha, hk, e9⟩ := zv1_ok e
    cases hr
    exact V_invokevirtual (k := 0) eX0_lend_2 lmX0_schemeAt q802 q804 rfl rfl qs21 ha hk (c_X0_schemeAt e9) (hRet_oR _ _) rfl rfl rfl rfl (kOR k)
  refine V_astore4 rfl eX0_lend_5 rfl (zrf_rf _) ?_
  refine V_aload4 eX0_lend_7 (zrf_rf _) ?_
  refine V_ifnull eX0_lend_9 (fun q => ?_) (fun a q => ?_)
  · have H := zif_t q H
    exact V_fg2 (b_X0_lend_19 H) (zfg_n (zfg_n (zfg_n (zfg_n (zfg_n zfg_e)))))
  · have H := zif_f (zsn q) H
    refine V_iload2 eX0_lend_12 ?_
    refine D_callI (pc' := 16) (st := []) H (fun v h' c1 s1 e cb sb k => ?_) (fun v2 h c s H => ?_)
    · exact V_invokestatic eX0_lend_13 lmX0_isHolder q276 q277 (c_X0_isHolder e) (hRet_oI _ _) rfl rfl rfl rfl (kOI k)
    refine V_ifne eX0_lend_16 (fun q => ?_) (fun q => ?_)
    · have H := zif_f q H
      refine V_iload3 eX0_lend_21 ?_
      refine V_iconst (v := 1) (by decide) eX0_lend_22 ?_
      refine V_sipush (v := 9999) (by decide) eX0_lend_23 ?_
      refine D_callI (pc' := 29) (st := []) H (fun v h' c1 s1 e cb sb k => ?_) (fun v3 h c s H => ?_)
      · exact V_invokestatic eX0_lend_26 lmX0_in q149 q150 (c_X0_in e) (hRet_oI _ _) rfl rfl rfl rfl (kOI k)
      refine V_ifne eX0_lend_29 (fun q => ?_) (fun q => ?_)
      · have H := zif_f q H
        refine V_aload4 eX0_lend_35 (zrf_rf _) ?_
        refine D_gI eX0_lend_37 fq_X0_407_tI H (fun v4 H => ?_)
        refine V_ifne eX0_lend_40 (fun q => ?_) (fun q => ?_)
        · have H := zif_f q H
          exact V_fg2 (b_X0_lend_55 H) (zfg_n (zfg_n (zfg_n (zfg_n (zfg_n zfg_e)))))
        · have H := zif_t q H
          refine V_aload0 eX0_lend_43 (zrf_rf _) ?_
          refine D_gR eX0_lend_44 fq_X0_60_tR H (fun v5 H => ?_)
          refine V_iload2 eX0_lend_47 ?_
          refine D_laload eX0_lend_48 H (fun v6 H => ?_)
          refine V_iload3 eX0_lend_49 ?_
          refine V_i2l eX0_lend_50 ?_
          refine V_lcmp eX0_lend_51 ?_
          refine V_ifge eX0_lend_52 (fun q => ?_) (fun q => ?_)
          · have H := zif_t q H
            refine V_aload0 eX0_lend_58 (zrf_rf _) ?_
            refine D_callI (pc' := 62) (st := []) H (fun v h' c1 s1 e cb sb k => ?_) (fun v7 h c s H => ?_)
            · obtain ⟨a, hr, ha, hk, e9⟩ := zv1_ok e
              cases hr
              exact V_invokevirtual (k := 0) eX0_lend_59 lmX0_isFull q705 q707 rfl rfl qs19 ha hk (c_X0_isFull e9) (hRet_oI _ _) rfl rfl rfl rfl (kOI k)
            refine V_ifeq eX0_lend_62 (fun q => ?_) (fun q => ?_)
            · have H := zif_t q H
              refine V_aload0 eX0_lend_68 (zrf_rf _) ?_
              refine D_gR eX0_lend_69 fq_X0_60_tR H (fun v8 H => ?_)
              refine V_iload2 eX0_lend_72 ?_
              refine V_dup2 rfl (zcr _) eX0_lend_73 ?_
              refine D_laload eX0_lend_74 H (fun v9 H => ?_)
              refine V_iload3 eX0_lend_75 ?_
              refine V_i2l eX0_lend_76 ?_
              refine V_lsub eX0_lend_77 ?_
              refine D_lastore eX0_lend_78 H (fun h H => ?_)
              refine V_aload4 eX0_lend_79 (zrf_rf _) ?_
              refine V_dup (zcr _) eX0_lend_81 ?_
              refine D_gL eX0_lend_82 fq_X0_415_tL H (fun v10 H => ?_)
              refine V_iload3 eX0_lend_85 ?_
              refine V_i2l eX0_lend_86 ?_
              refine V_ladd eX0_lend_87 ?_
              refine D_pL eX0_lend_88 fq_X0_415_tL fn_X0_lend_415 H (fun h H => ?_)
              refine V_aload0 eX0_lend_91 (zrf_rf _) ?_
              refine D_new (g := 0) eX0_lend_92 nl_X0_465 rfl H (fun n11 h c s H => ?_)
              refine V_dup (zcr _) eX0_lend_95 ?_
              refine V_aload0 eX0_lend_96 (zrf_rf _) ?_
              refine D_gR eX0_lend_97 fq_X0_121_tR H (fun v12 H => ?_)
              refine D_callI (pc' := 103) (st := [va_rf n11, va_rf n11, va_rf (some x)]) H (fun v h' c1 s1 e cb sb k => ?_) (fun v13 h c s H => ?_)
              · obtain ⟨a, hr, ha, hk, e9⟩ := zv1_ok e
                cases hr
                exact V_invokevirtual (k := 30) eX0_lend_100 lmJ2_size q156 q157 rfl rfl q158 ha hk (c_J2_size e9) (hRet_oI _ _) rfl rfl rfl (by simp only [List.map_cons, List.map_nil, zcr]; rfl) (kOI k)
              refine V_aload0 eX0_lend_103 (zrf_rf _) ?_
              refine D_gI eX0_lend_104 fq_X0_194_tI H (fun v14 H => ?_)
              refine V_aload4 eX0_lend_107 (zrf_rf _) ?_
              refine V_iload2 eX0_lend_109 ?_
              refine V_iload3 eX0_lend_110 ?_
              refine D_callU (pc' := 114) (st := [va_rf n11, va_rf (some x)]) H (fun v h' c1 s1 e cb sb k => ?_) (fun v15 h c s H => ?_)
              · obtain ⟨a, hr, e9⟩ := znn_ok e
                cases hr
                exact V_invokeinit eX0_lend_111 lmX22_init rfl rfl q1472 q1473 (c_X22_init e9) (hRet_oU _ _) rfl rfl rfl (by simp only [List.map_cons, List.map_nil, zcr]; rfl) (kOU k)
              refine D_callI (pc' := 117) (st := []) H (fun v h' c1 s1 e cb sb k => ?_) (fun v16 h c s H => ?_)
              · obtain ⟨a, hr, ha, hk, e9⟩ := zv1_ok e
                cases hr
                exact V_invokevirtual (k := 0) eX0_lend_114 lmX0_add q793 q795 rfl rfl qs20 ha hk (c_X0_add e9) (hRet_oI _ _) rfl rfl rfl rfl (kOI k)
              obtain ⟨rfl, rfl, rfl, rfl⟩ := zrt_ok H
              exact V_ireturn eX0_lend_117 rfl ⟨rfl, rfl⟩
            · have H := zif_f q H
              refine V_bipush (v := -4) (by decide) eX0_lend_65 ?_
              obtain ⟨rfl, rfl, rfl, rfl⟩ := zrt_ok H
              exact V_ireturn eX0_lend_67 rfl ⟨rfl, rfl⟩
          · have H := zif_f q H
            exact V_fg2 (b_X0_lend_55 H) (zfg_n (zfg_n (zfg_n (zfg_n (zfg_n zfg_e)))))
      · have H := zif_t q H
        refine V_bipush (v := -2) (by decide) eX0_lend_32 ?_
        obtain ⟨rfl, rfl, rfl, rfl⟩ := zrt_ok H
        exact V_ireturn eX0_lend_34 rfl ⟨rfl, rfl⟩
    · have H := zif_t q H
      exact V_fg2 (b_X0_lend_19 H) (zfg_n (zfg_n (zfg_n (zfg_n (zfg_n zfg_e)))))
theorem fq_X0_470_tI : FQ RX0 470 f_X13_place tI := by
  intro k j e
  unfold f_X13_place at e
  split at e
  · cases e; exact ⟨fl_X0_470_13, Or.inl rfl⟩
  · cases e; exact ⟨fl_X0_470_15, Or.inl rfl⟩
  · cases e; exact ⟨fl_X0_470_18, Or.inl rfl⟩
  · cases e
def d_X0_schemeBy_39 (w : Wd) (F : Nat) (k2 : Int32 → M (Option Nat)) (x : Nat) (a1 : Int32) (a2 : Int32) : M (Option Nat) :=
  k2 (a2 + (1 : Int32))
def B_X0_schemeBy_2 (w : Wd) (F : Nat) (k2 : Int32 → M (Option Nat)) (x : Nat) (a1 : Int32) (a2 : Int32) : M (Option Nat) :=
  zbd (zgR f_X0_papers (some x)) fun v1 =>
  zbd (zv1 30 v1 (fun a => o_J2_size w F a)) fun v2 =>
  zif (v2 ≤ a2) (zrt none)
  (zbd (zv1 0 (some x) (fun a => o_X0_schemeAt w F a a2)) fun v3 =>
  zif (v3 = none) (d_X0_schemeBy_39 w F k2 x a1 a2)
  (zbd (zv1 0 (some x) (fun a => o_X0_schemeAt w F a a2)) fun v4 =>
  zbd (zgI f_X13_place v4) fun v5 =>
  zif (v5 = a1) (zbd (zv1 0 (some x) (fun a => o_X0_schemeAt w F a a2)) fun v6 =>
  zrt v6)
  (d_X0_schemeBy_39 w F k2 x a1 a2)))
def d_X0_schemeBy_2 (w : Wd) (F : Nat) (x : Nat) (a1 : Int32) : Nat → Int32 → M (Option Nat)
  | 0, _ => zno
  | n + 1, a2 => B_X0_schemeBy_2 w F (d_X0_schemeBy_2 w F x a1 n) x a1 a2
def o_X0_schemeBy (w : Wd) (F : Nat) (x : Nat) (a1 : Int32) : M (Option Nat) :=
  d_X0_schemeBy_2 w F x a1 F (0 : Int32)
theorem b_X0_schemeBy_39 {w : Wd} {F : Nat} {k2 : Int32 → M (Option Nat)} {x : Nat} {a1 : Int32} (hk2 : ∀ (a2 : Int32) (h : Hp) (y : Option Nat) (h1 : Hp) (c s : Nat), k2 a2 h = some (y, h1, c, s) → V w mX0_schemeBy cX0_schemeBy 5 c s h 2 [some (va_rf (some x)), some (.int a1), some (.int a2)] [] (Ro (oR y) h1)) {a2 : Int32} {h h1 : Hp} {y : Option Nat} {c s : Nat} (H : d_X0_schemeBy_39 w F k2 x a1 a2 h = some (y, h1, c, s)) : V w mX0_schemeBy cX0_schemeBy 5 c s h 39 [some (va_rf (some x)), some (.int a1), some (.int a2)] [] (Ro (oR y) h1) := by
  unfold d_X0_schemeBy_39 at H
  refine V_iinc2 rfl eX0_schemeBy_39 rfl (v := 1) (by decide) ?_
  refine V_goto eX0_schemeBy_42 ?_
  exact V_fg2 (hk2 _ _ _ _ _ _ H) (zfg_k (zfg_k (zfg_k zfg_e)))
theorem bB_X0_schemeBy_2 {w : Wd} {F : Nat} {k2 : Int32 → M (Option Nat)} {x : Nat} {a1 : Int32} (hk2 : ∀ (a2 : Int32) (h : Hp) (y : Option Nat) (h1 : Hp) (c s : Nat), k2 a2 h = some (y, h1, c, s) → V w mX0_schemeBy cX0_schemeBy 5 c s h 2 [some (va_rf (some x)), some (.int a1), some (.int a2)] [] (Ro (oR y) h1)) {a2 : Int32} {h h1 : Hp} {y : Option Nat} {c s : Nat} (H : B_X0_schemeBy_2 w F k2 x a1 a2 h = some (y, h1, c, s)) : V w mX0_schemeBy cX0_schemeBy 5 c s h 2 [some (va_rf (some x)), some (.int a1), some (.int a2)] [] (Ro (oR y) h1) := by
  unfold B_X0_schemeBy_2 at H
  refine V_iload2 eX0_schemeBy_2 ?_
  refine V_aload0 eX0_schemeBy_3 (zrf_rf _) ?_
  refine D_gR eX0_schemeBy_4 fq_X0_121_tR H (fun v1 H => ?_)
  refine D_callI (pc' := 10) (st := [.int a2]) H (fun v h' c1 s1 e cb sb k => ?_) (fun v2 h c s H => ?_)
  · obtain ⟨a, hr, ha, hk, e9⟩ := zv1_ok e
    cases hr
    exact V_invokevirtual (k := 30) eX0_schemeBy_7 lmJ2_size q156 q157 rfl rfl q158 ha hk (c_J2_size e9) (hRet_oI _ _) rfl rfl rfl rfl (kOI k)
  refine V_if_icmpge eX0_schemeBy_10 (fun q => ?_) (fun q => ?_)
  · have H := zif_t q H
    refine D_null eX0_schemeBy_45 ?_
    obtain ⟨rfl, rfl, rfl, rfl⟩ := zrt_ok H
    exact V_areturn eX0_schemeBy_46 rfl (Or.inl ⟨_, rfl⟩) ⟨rfl, rfl⟩
  · have H := zif_f q H
    refine V_aload0 eX0_schemeBy_13 (zrf_rf _) ?_
    refine V_iload2 eX0_schemeBy_14 ?_
    refine D_callR (pc' := 18) (st := []) H (fun v h' c1 s1 e cb sb k => ?_) (fun v3 h c s H => ?_)
    · obtain ⟨a, hr, ha, hk, e9⟩ := zv1_ok e
      cases hr
      exact V_invokevirtual (k := 0) eX0_schemeBy_15 lmX0_schemeAt q802 q804 rfl rfl qs21 ha hk (c_X0_schemeAt e9) (hRet_oR _ _) rfl rfl rfl rfl (kOR k)
    refine V_ifnull eX0_schemeBy_18 (fun q => ?_) (fun a q => ?_)
    · have H := zif_t q H
      exact V_fg2 (b_X0_schemeBy_39 hk2 H) (zfg_k (zfg_k (zfg_k zfg_e)))
    · have H := zif_f (zsn q) H
      refine V_aload0 eX0_schemeBy_21 (zrf_rf _) ?_
      refine V_iload2 eX0_schemeBy_22 ?_
      refine D_callR (pc' := 26) (st := []) H (fun v h' c1 s1 e cb sb k => ?_) (fun v4 h c s H => ?_)
      · obtain ⟨a, hr, ha, hk, e9⟩ := zv1_ok e
        cases hr
        exact V_invokevirtual (k := 0) eX0_schemeBy_23 lmX0_schemeAt q802 q804 rfl rfl qs21 ha hk (c_X0_schemeAt e9) (hRet_oR _ _) rfl rfl rfl rfl (kOR k)
      refine D_gI eX0_schemeBy_26 fq_X0_470_tI H (fun v5 H => ?_)
      refine V_iload1 eX0_schemeBy_29 ?_
      refine V_if_icmpne eX0_schemeBy_30 (fun q => ?_) (fun q => ?_)
      · have H := zif_f q H
        exact V_fg2 (b_X0_schemeBy_39 hk2 H) (zfg_k (zfg_k (zfg_k zfg_e)))
      · have H := zif_t q H
        refine V_aload0 eX0_schemeBy_33 (zrf_rf _) ?_
        refine V_iload2 eX0_schemeBy_34 ?_
        refine D_callR (pc' := 38) (st := []) H (fun v h' c1 s1 e cb sb k => ?_) (fun v6 h c s H => ?_)
        · obtain ⟨a, hr, ha, hk, e9⟩ := zv1_ok e
          cases hr
          exact V_invokevirtual (k := 0) eX0_schemeBy_35 lmX0_schemeAt q802 q804 rfl rfl qs21 ha hk (c_X0_schemeAt e9) (hRet_oR _ _) rfl rfl rfl rfl (kOR k)
        obtain ⟨rfl, rfl, rfl, rfl⟩ := zrt_ok H
        exact V_areturn eX0_schemeBy_38 rfl (Or.inl ⟨_, rfl⟩) ⟨rfl, rfl⟩
theorem b_X0_schemeBy_2 {w : Wd} {F : Nat} {x : Nat} {a1 : Int32} : ∀ (n : Nat) (a2 : Int32) (h : Hp) (y : Option Nat) (h1 : Hp) (c s : Nat), d_X0_schemeBy_2 w F x a1 n a2 h = some (y, h1, c, s) → V w mX0_schemeBy cX0_schemeBy 5 c s h 2 [some (va_rf (some x)), some (.int a1), some (.int a2)] [] (Ro (oR y) h1) := by
  intro n
  induction n with
  | zero => intro a2 h y h1 c s H; exact zno_no H
  | succ n ih => intro a2 h y h1 c s H; exact bB_X0_schemeBy_2 ih H
theorem c_X0_schemeBy {w : Wd} {F : Nat} {x : Nat} {a1 : Int32} {h h1 : Hp} {y : Option Nat} {c s : Nat} (H : o_X0_schemeBy w F x a1 h = some (y, h1, c, s)) : Con w mX0_schemeBy cX0_schemeBy 5 c s [.ref x, .int a1] h (Ro (oR y) h1) := by
  unfold o_X0_schemeBy at H
  refine Con.of (ls := [some (va_rf (some x)), some (.int a1), none]) (by decide +kernel) rfl rfl ?_
  refine V_iconst (v := 0) (by decide) eX0_schemeBy_0 ?_
  refine V_istore2 rfl eX0_schemeBy_1 rfl ?_
  exact V_fg2 (b_X0_schemeBy_2 _ _ _ _ _ _ _ H) (zfg_k (zfg_k (zfg_k zfg_e)))
def f_X23_pays : Nat → Option Nat := fun k => match k with
  | 23 => some 4
  | _ => none
theorem fq_X23_34_tR : FQ RX23 34 f_X23_pays tR := by
  intro k j e
  unfold f_X23_pays at e
  split at e
  · cases e; exact ⟨fl_X23_34_23, Or.inr ⟨_, rfl⟩⟩
  · cases e
def f_X23_all : Nat → Option Nat := fun k => match k with
  | 23 => some 2
  | _ => none
theorem fq_X23_27_tR : FQ RX23 27 f_X23_all tR := by
  intro k j e
  unfold f_X23_all at e
  split at e
  · cases e; exact ⟨fl_X23_27_23, Or.inr ⟨_, rfl⟩⟩
  · cases e
def d_X23_falls_21 (w : Wd) (F : Nat) (s0 : Int32) : M Int32 :=
  zbd (zgd (s0 = 0 ∨ s0 = 1)) fun _ => zrt s0
def o_X23_falls (w : Wd) (F : Nat) (x : Nat) (a1 : Int32) : M Int32 :=
  zbd (zgR f_X23_pays (some x)) fun v1 =>
  zbd (zaL v1 a1) fun v2 =>
  zbd (zgR f_X23_all (some x)) fun v3 =>
  zbd (zaL v3 a1) fun v4 =>
  zif (0 ≤ (lg_cmp v2 v4)) (d_X23_falls_21 w F (0 : Int32))
  (d_X23_falls_21 w F (1 : Int32))
theorem b_X23_falls_21 {w : Wd} {F : Nat} {s0 : Int32} {h h1 : Hp} {y : Int32} {c s : Nat} (H : d_X23_falls_21 w F s0 h = some (y, h1, c, s)) : V w mX23_falls cX23_falls 0 c s h 21 [none, none] [.int s0] (Ro (oI y) h1) := by
  unfold d_X23_falls_21 at H
  obtain ⟨q, H⟩ := zgd_ok H
  obtain ⟨rfl, rfl, rfl, rfl⟩ := zrt_ok H
  exact V_zreturn eX23_falls_21 rfl q ⟨rfl, rfl⟩
theorem c_X23_falls {w : Wd} {F : Nat} {x : Nat} {a1 : Int32} {h h1 : Hp} {y : Int32} {c s : Nat} (H : o_X23_falls w F x a1 h = some (y, h1, c, s)) : Con w mX23_falls cX23_falls 0 c s [.ref x, .int a1] h (Ro (oI y) h1) := by
  unfold o_X23_falls at H
  refine Con.of (ls := [some (va_rf (some x)), some (.int a1)]) (by decide +kernel) rfl rfl ?_
  refine V_aload0 eX23_falls_0 (zrf_rf _) ?_
  refine D_gR eX23_falls_1 fq_X23_34_tR H (fun v1 H => ?_)
  refine V_iload1 eX23_falls_4 ?_
  refine D_laload eX23_falls_5 H (fun v2 H => ?_)
  refine V_aload0 eX23_falls_6 (zrf_rf _) ?_
  refine D_gR eX23_falls_7 fq_X23_27_tR H (fun v3 H => ?_)
  refine V_iload1 eX23_falls_10 ?_
  refine D_laload eX23_falls_11 H (fun v4 H => ?_)
  refine V_lcmp eX23_falls_12 ?_
  refine V_ifge eX23_falls_13 (fun q => ?_) (fun q => ?_)
  · have H := zif_t q H
    refine V_iconst (v := 0) (by decide) eX23_falls_20 ?_
    exact V_fg2 (b_X23_falls_21 H) (zfg_n (zfg_n zfg_e))
  · have H := zif_f q H
    refine V_iconst (v := 1) (by decide) eX23_falls_16 ?_
    refine V_goto eX23_falls_17 ?_
    exact V_fg2 (b_X23_falls_21 H) (zfg_n (zfg_n zfg_e))
def f_X23_owes : Nat → Option Nat := fun k => match k with
  | 23 => some 1
  | _ => none
theorem fq_X23_24_tR : FQ RX23 24 f_X23_owes tR := by
  intro k j e
  unfold f_X23_owes at e
  split at e
  · cases e; exact ⟨fl_X23_24_23, Or.inr ⟨_, rfl⟩⟩
  · cases e
def d_X23_part_37 (w : Wd) (F : Nat) (s0 : Int64) : M Int64 :=
  zrt s0
def o_X23_part (w : Wd) (F : Nat) (x : Nat) (a1 : Int32) (a2 : Int32) : M Int64 :=
  zbd (zgR f_X23_all (some x)) fun v1 =>
  zbd (zaL v1 a1) fun v2 =>
  zif ((lg_cmp v2 (0 : Int64)) = 0) (d_X23_part_37 w F (0 : Int64))
  (zbd (zgR f_X23_pays (some x)) fun v3 =>
  zbd (zaL v3 a1) fun v4 =>
  zbd (zgR f_X23_owes (some x)) fun v5 =>
  zbd (zaR v5 a1) fun v6 =>
  zbd (zaL v6 a2) fun v7 =>
  zbd (zgR f_X23_all (some x)) fun v8 =>
  zbd (zaL v8 a1) fun v9 =>
  zbd (zgd (¬ v9 = 0)) fun _ =>
  d_X23_part_37 w F ((v4 * v7) / v9))
theorem b_X23_part_37 {w : Wd} {F : Nat} {s0 : Int64} {h h1 : Hp} {y : Int64} {c s : Nat} (H : d_X23_part_37 w F s0 h = some (y, h1, c, s)) : V w mX23_part cX23_part 0 c s h 37 [none, none, none] [.long s0] (Ro (oL y) h1) := by
  unfold d_X23_part_37 at H
  obtain ⟨rfl, rfl, rfl, rfl⟩ := zrt_ok H
  exact V_lreturn eX23_part_37 rfl ⟨rfl, rfl⟩
theorem c_X23_part {w : Wd} {F : Nat} {x : Nat} {a1 : Int32} {a2 : Int32} {h h1 : Hp} {y : Int64} {c s : Nat} (H : o_X23_part w F x a1 a2 h = some (y, h1, c, s)) : Con w mX23_part cX23_part 0 c s [.ref x, .int a1, .int a2] h (Ro (oL y) h1) := by
  unfold o_X23_part at H
  refine Con.of (ls := [some (va_rf (some x)), some (.int a1), some (.int a2)]) (by decide +kernel) rfl rfl ?_
  refine V_aload0 eX23_part_0 (zrf_rf _) ?_
  refine D_gR eX23_part_1 fq_X23_27_tR H (fun v1 H => ?_)
  refine V_iload1 eX23_part_4 ?_
  refine D_laload eX23_part_5 H (fun v2 H => ?_)
  refine V_lconst (v := 0) (by decide) eX23_part_6 ?_
  refine V_lcmp eX23_part_7 ?_
  refine V_ifne eX23_part_8 (fun q => ?_) (fun q => ?_)
  · have H := zif_f q H
    refine V_aload0 eX23_part_15 (zrf_rf _) ?_
    refine D_gR eX23_part_16 fq_X23_34_tR H (fun v3 H => ?_)
    refine V_iload1 eX23_part_19 ?_
    refine D_laload eX23_part_20 H (fun v4 H => ?_)
    refine V_aload0 eX23_part_21 (zrf_rf _) ?_
    refine D_gR eX23_part_22 fq_X23_24_tR H (fun v5 H => ?_)
    refine V_iload1 eX23_part_25 ?_
    refine D_aaload eX23_part_26 H (fun v6 H => ?_)
    refine V_iload2 eX23_part_27 ?_
    refine D_laload eX23_part_28 H (fun v7 H => ?_)
    refine V_lmul eX23_part_29 ?_
    refine V_aload0 eX23_part_30 (zrf_rf _) ?_
    refine D_gR eX23_part_31 fq_X23_27_tR H (fun v8 H => ?_)
    refine V_iload1 eX23_part_34 ?_
    refine D_laload eX23_part_35 H (fun v9 H => ?_)
    obtain ⟨q10, H⟩ := zgd_ok H
    refine V_ldiv q10 eX23_part_36 ?_
    exact V_fg2 (b_X23_part_37 H) (zfg_n (zfg_n (zfg_n zfg_e)))
  · have H := zif_t q H
    refine V_lconst (v := 0) (by decide) eX23_part_11 ?_
    refine V_goto eX23_part_12 ?_
    exact V_fg2 (b_X23_part_37 H) (zfg_n (zfg_n (zfg_n zfg_e)))
def f_X23_many : Nat → Option Nat := fun k => match k with
  | 23 => some 0
  | _ => none
theorem fq_X23_19_tI : FQ RX23 19 f_X23_many tI := by
  intro k j e
  unfold f_X23_many at e
  split at e
  · cases e; exact ⟨fl_X23_19_23, Or.inl rfl⟩
  · cases e
def B_X23_gets_5 (w : Wd) (F : Nat) (k5 : Int64 → Int32 → M Int64) (x : Nat) (a1 : Int32) (a2 : Int64) (a4 : Int32) : M Int64 :=
  zbd (zgI f_X23_many (some x)) fun v1 =>
  zif (v1 ≤ a4) (zrt a2)
  (zbd (zv1 23 (some x) (fun a => o_X23_part w F a a4 a1)) fun v2 =>
  zbd (zv1 23 (some x) (fun a => o_X23_part w F a a1 a4)) fun v3 =>
  k5 (a2 + (v2 - v3)) (a4 + (1 : Int32)))
def d_X23_gets_5 (w : Wd) (F : Nat) (x : Nat) (a1 : Int32) : Nat → Int64 → Int32 → M Int64
  | 0, _, _ => zno
  | n + 1, a2, a4 => B_X23_gets_5 w F (d_X23_gets_5 w F x a1 n) x a1 a2 a4
def o_X23_gets (w : Wd) (F : Nat) (x : Nat) (a1 : Int32) : M Int64 :=
  d_X23_gets_5 w F x a1 F (0 : Int64) (0 : Int32)
theorem bB_X23_gets_5 {w : Wd} {F : Nat} {k5 : Int64 → Int32 → M Int64} {x : Nat} {a1 : Int32} (hk5 : ∀ (a2 : Int64) (a4 : Int32) (h : Hp) (y : Int64) (h1 : Hp) (c s : Nat), k5 a2 a4 h = some (y, h1, c, s) → V w mX23_gets cX23_gets 1 c s h 5 [some (va_rf (some x)), some (.int a1), some (.long a2), none, some (.int a4)] [] (Ro (oL y) h1)) {a2 : Int64} {a4 : Int32} {h h1 : Hp} {y : Int64} {c s : Nat} (H : B_X23_gets_5 w F k5 x a1 a2 a4 h = some (y, h1, c, s)) : V w mX23_gets cX23_gets 1 c s h 5 [some (va_rf (some x)), some (.int a1), some (.long a2), none, some (.int a4)] [] (Ro (oL y) h1) := by
  unfold B_X23_gets_5 at H
  refine V_iload4 eX23_gets_5 ?_
  refine V_aload0 eX23_gets_7 (zrf_rf _) ?_
  refine D_gI eX23_gets_8 fq_X23_19_tI H (fun v1 H => ?_)
  refine V_if_icmpge eX23_gets_11 (fun q => ?_) (fun q => ?_)
  · have H := zif_t q H
    refine V_lload2 eX23_gets_38 ?_
    obtain ⟨rfl, rfl, rfl, rfl⟩ := zrt_ok H
    exact V_lreturn eX23_gets_39 rfl ⟨rfl, rfl⟩
  · have H := zif_f q H
    refine V_lload2 eX23_gets_14 ?_
    refine V_aload0 eX23_gets_15 (zrf_rf _) ?_
    refine V_iload4 eX23_gets_16 ?_
    refine V_iload1 eX23_gets_18 ?_
    refine D_callL (pc' := 22) (st := [.long a2]) H (fun v h' c1 s1 e cb sb k => ?_) (fun v2 h c s H => ?_)
    · obtain ⟨a, hr, ha, hk, e9⟩ := zv1_ok e
      cases hr
      exact V_invokevirtual (k := 23) eX23_gets_19 lmX23_part q1506 q1508 rfl rfl qs43 ha hk (c_X23_part e9) (hRet_oL _ _) rfl rfl rfl rfl (kOL k)
    refine V_aload0 eX23_gets_22 (zrf_rf _) ?_
    refine V_iload1 eX23_gets_23 ?_
    refine V_iload4 eX23_gets_24 ?_
    refine D_callL (pc' := 29) (st := [.long v2, .long a2]) H (fun v h' c1 s1 e cb sb k => ?_) (fun v3 h c s H => ?_)
    · obtain ⟨a, hr, ha, hk, e9⟩ := zv1_ok e
      cases hr
      exact V_invokevirtual (k := 23) eX23_gets_26 lmX23_part q1506 q1508 rfl rfl qs43 ha hk (c_X23_part e9) (hRet_oL _ _) rfl rfl rfl rfl (kOL k)
    refine V_lsub eX23_gets_29 ?_
    refine V_ladd eX23_gets_30 ?_
    refine V_lstore2 rfl eX23_gets_31 rfl ?_
    refine V_iinc4 rfl eX23_gets_32 rfl (v := 1) (by decide) ?_
    refine V_goto eX23_gets_35 ?_
    exact V_fg2 (hk5 _ _ _ _ _ _ _ H) (zfg_k (zfg_k (zfg_k (zfg_n (zfg_k zfg_e)))))
theorem b_X23_gets_5 {w : Wd} {F : Nat} {x : Nat} {a1 : Int32} : ∀ (n : Nat) (a2 : Int64) (a4 : Int32) (h : Hp) (y : Int64) (h1 : Hp) (c s : Nat), d_X23_gets_5 w F x a1 n a2 a4 h = some (y, h1, c, s) → V w mX23_gets cX23_gets 1 c s h 5 [some (va_rf (some x)), some (.int a1), some (.long a2), none, some (.int a4)] [] (Ro (oL y) h1) := by
  intro n
  induction n with
  | zero => intro a2 a4 h y h1 c s H; exact zno_no H
  | succ n ih => intro a2 a4 h y h1 c s H; exact bB_X23_gets_5 ih H
theorem c_X23_gets {w : Wd} {F : Nat} {x : Nat} {a1 : Int32} {h h1 : Hp} {y : Int64} {c s : Nat} (H : o_X23_gets w F x a1 h = some (y, h1, c, s)) : Con w mX23_gets cX23_gets 1 c s [.ref x, .int a1] h (Ro (oL y) h1) := by
  unfold o_X23_gets at H
  refine Con.of (ls := [some (va_rf (some x)), some (.int a1), none, none, none]) (by decide +kernel) rfl rfl ?_
  refine V_lconst (v := 0) (by decide) eX23_gets_0 ?_
  refine V_lstore2 rfl eX23_gets_1 rfl ?_
  refine V_iconst (v := 0) (by decide) eX23_gets_2 ?_
  refine V_istore4 rfl eX23_gets_3 rfl ?_
  exact V_fg2 (b_X23_gets_5 _ _ _ _ _ _ _ _ H) (zfg_k (zfg_k (zfg_k (zfg_n (zfg_k zfg_e)))))
def f_X23_has : Nat → Option Nat := fun k => match k with
  | 23 => some 3
  | _ => none
theorem fq_X23_31_tR : FQ RX23 31 f_X23_has tR := by
  intro k j e
  unfold f_X23_has at e
  split at e
  · cases e; exact ⟨fl_X23_31_23, Or.inr ⟨_, rfl⟩⟩
  · cases e
def f_X23_comes : Nat → Option Nat := fun k => match k with
  | 23 => some 5
  | _ => none
theorem fq_X23_37_tR : FQ RX23 37 f_X23_comes tR := by
  intro k j e
  unfold f_X23_comes at e
  split at e
  · cases e; exact ⟨fl_X23_37_23, Or.inr ⟨_, rfl⟩⟩
  · cases e
def d_X23_round_106 (w : Wd) (F : Nat) (k58 : Int32 → Int32 → M Int32) (x : Nat) (a2 : Int32) (a3 : Int64) (s0 : Int32) (s1 : Int32) : M Int32 :=
  zbd (zgR f_X23_pays (some x)) fun v12 =>
  zbd (zsL v12 a2 a3) fun _ =>
  k58 (s0 ||| s1) (a2 + (1 : Int32))
def B_X23_round_58 (w : Wd) (F : Nat) (k58 : Int32 → Int32 → M Int32) (x : Nat) (a1 : Int32) (a2 : Int32) : M Int32 :=
  zbd (zgI f_X23_many (some x)) fun v2 =>
  zif (v2 ≤ a2) (zbd (zgd (a1 = 0 ∨ a1 = 1)) fun _ => zrt a1)
  (zbd (zgR f_X23_all (some x)) fun v3 =>
  zbd (zaL v3 a2) fun v4 =>
  zbd (zgR f_X23_has (some x)) fun v5 =>
  zbd (zaL v5 a2) fun v6 =>
  zbd (zgR f_X23_comes (some x)) fun v7 =>
  zbd (zaL v7 a2) fun v8 =>
  zbd (o_J6_min_2 w F v4 (v6 + v8)) fun v9 =>
  zbd (zgR f_X23_pays (some x)) fun v10 =>
  zbd (zaL v10 a2) fun v11 =>
  zif ((lg_cmp v9 v11) = 0) (d_X23_round_106 w F k58 x a2 v9 a1 (0 : Int32))
  (d_X23_round_106 w F k58 x a2 v9 a1 (1 : Int32)))
def d_X23_round_58 (w : Wd) (F : Nat) (x : Nat) : Nat → Int32 → Int32 → M Int32
  | 0, _, _ => zno
  | n + 1, a1, a2 => B_X23_round_58 w F (d_X23_round_58 w F x n) x a1 a2
def B_X23_round_19 (w : Wd) (F : Nat) (k2 : Int32 → M Int32) (k19 : Int32 → M Int32) (x : Nat) (a1 : Int32) (a2 : Int32) : M Int32 :=
  zbd (zgI f_X23_many (some x)) fun v3 =>
  zif (v3 ≤ a2) (k2 (a1 + (1 : Int32)))
  (zbd (zgR f_X23_comes (some x)) fun v4 =>
  zbd (zaL v4 a1) fun v5 =>
  zbd (zv1 23 (some x) (fun a => o_X23_part w F a a2 a1)) fun v6 =>
  zbd (zsL v4 a1 (v5 + v6)) fun _ =>
  k19 (a2 + (1 : Int32)))
def d_X23_round_19 (w : Wd) (F : Nat) (k2 : Int32 → M Int32) (x : Nat) (a1 : Int32) : Nat → Int32 → M Int32
  | 0, _ => zno
  | n + 1, a2 => B_X23_round_19 w F k2 (d_X23_round_19 w F k2 x a1 n) x a1 a2
def B_X23_round_2 (w : Wd) (F : Nat) (k2 : Int32 → M Int32) (x : Nat) (a1 : Int32) : M Int32 :=
  zbd (zgI f_X23_many (some x)) fun v1 =>
  zif (v1 ≤ a1) (d_X23_round_58 w F x F (0 : Int32) (0 : Int32))
  (zbd (zgR f_X23_comes (some x)) fun v2 =>
  zbd (zsL v2 a1 (0 : Int64)) fun _ =>
  d_X23_round_19 w F k2 x a1 F (0 : Int32))
def d_X23_round_2 (w : Wd) (F : Nat) (x : Nat) : Nat → Int32 → M Int32
  | 0, _ => zno
  | n + 1, a1 => B_X23_round_2 w F (d_X23_round_2 w F x n) x a1
def o_X23_round (w : Wd) (F : Nat) (x : Nat) : M Int32 :=
  d_X23_round_2 w F x F (0 : Int32)
theorem b_X23_round_106 {w : Wd} {F : Nat} {k58 : Int32 → Int32 → M Int32} {x : Nat} (hk58 : ∀ (a1 : Int32) (a2 : Int32) (h : Hp) (y : Int32) (h1 : Hp) (c s : Nat), k58 a1 a2 h = some (y, h1, c, s) → V w mX23_round cX23_round 1 c s h 58 [some (va_rf (some x)), some (.int a1), some (.int a2), none, none] [] (Ro (oI y) h1)) {a2 : Int32} {a3 : Int64} {s0 : Int32} {s1 : Int32} {h h1 : Hp} {y : Int32} {c s : Nat} (H : d_X23_round_106 w F k58 x a2 a3 s0 s1 h = some (y, h1, c, s)) : V w mX23_round cX23_round 1 c s h 106 [some (va_rf (some x)), none, some (.int a2), some (.long a3), none] [.int s1, .int s0] (Ro (oI y) h1) := by
  unfold d_X23_round_106 at H
  refine V_ior eX23_round_106 ?_
  refine V_istore1 (znl_rf _) eX23_round_107 rfl ?_
  refine V_aload0 eX23_round_108 (zrf_rf _) ?_
  refine D_gR eX23_round_109 fq_X23_34_tR H (fun v12 H => ?_)
  refine V_iload2 eX23_round_112 ?_
  refine V_lload3 eX23_round_113 ?_
  refine D_lastore eX23_round_114 H (fun h H => ?_)
  refine V_iinc2 rfl eX23_round_115 rfl (v := 1) (by decide) ?_
  refine V_goto eX23_round_118 ?_
  exact V_fg2 (hk58 _ _ _ _ _ _ _ H) (zfg_k (zfg_k (zfg_k (zfg_n (zfg_n zfg_e)))))
theorem bB_X23_round_58 {w : Wd} {F : Nat} {k58 : Int32 → Int32 → M Int32} {x : Nat} (hk58 : ∀ (a1 : Int32) (a2 : Int32) (h : Hp) (y : Int32) (h1 : Hp) (c s : Nat), k58 a1 a2 h = some (y, h1, c, s) → V w mX23_round cX23_round 1 c s h 58 [some (va_rf (some x)), some (.int a1), some (.int a2), none, none] [] (Ro (oI y) h1)) {a1 : Int32} {a2 : Int32} {h h1 : Hp} {y : Int32} {c s : Nat} (H : B_X23_round_58 w F k58 x a1 a2 h = some (y, h1, c, s)) : V w mX23_round cX23_round 1 c s h 58 [some (va_rf (some x)), some (.int a1), some (.int a2), none, none] [] (Ro (oI y) h1) := by
  unfold B_X23_round_58 at H
  refine V_iload2 eX23_round_58 ?_
  refine V_aload0 eX23_round_59 (zrf_rf _) ?_
  refine D_gI eX23_round_60 fq_X23_19_tI H (fun v2 H => ?_)
  refine V_if_icmpge eX23_round_63 (fun q => ?_) (fun q => ?_)
  · have H := zif_t q H
    refine V_iload1 eX23_round_121 ?_
    obtain ⟨q, H⟩ := zgd_ok H
    obtain ⟨rfl, rfl, rfl, rfl⟩ := zrt_ok H
    exact V_zreturn eX23_round_122 rfl q ⟨rfl, rfl⟩
  · have H := zif_f q H
    refine V_aload0 eX23_round_66 (zrf_rf _) ?_
    refine D_gR eX23_round_67 fq_X23_27_tR H (fun v3 H => ?_)
    refine V_iload2 eX23_round_70 ?_
    refine D_laload eX23_round_71 H (fun v4 H => ?_)
    refine V_aload0 eX23_round_72 (zrf_rf _) ?_
    refine D_gR eX23_round_73 fq_X23_31_tR H (fun v5 H => ?_)
    refine V_iload2 eX23_round_76 ?_
    refine D_laload eX23_round_77 H (fun v6 H => ?_)
    refine V_aload0 eX23_round_78 (zrf_rf _) ?_
    refine D_gR eX23_round_79 fq_X23_37_tR H (fun v7 H => ?_)
    refine V_iload2 eX23_round_82 ?_
    refine D_laload eX23_round_83 H (fun v8 H => ?_)
    refine V_ladd eX23_round_84 ?_
    refine D_callL (pc' := 88) (st := []) H (fun v h' c1 s1 e cb sb k => ?_) (fun v9 h c s H => ?_)
    · exact V_invokestatic eX23_round_85 lmJ6_min_2 q1510 q1380 (c_J6_min_2 e) (hRet_oL _ _) rfl rfl rfl rfl (kOL k)
    refine V_lstore3 rfl eX23_round_88 rfl ?_
    refine V_iload1 eX23_round_89 ?_
    refine V_lload3 eX23_round_90 ?_
    refine V_aload0 eX23_round_91 (zrf_rf _) ?_
    refine D_gR eX23_round_92 fq_X23_34_tR H (fun v10 H => ?_)
    refine V_iload2 eX23_round_95 ?_
    refine D_laload eX23_round_96 H (fun v11 H => ?_)
    refine V_lcmp eX23_round_97 ?_
    refine V_ifeq eX23_round_98 (fun q => ?_) (fun q => ?_)
    · have H := zif_t q H
      refine V_iconst (v := 0) (by decide) eX23_round_105 ?_
      exact V_fg2 (b_X23_round_106 hk58 H) (zfg_k (zfg_n (zfg_k (zfg_k (zfg_n zfg_e)))))
    · have H := zif_f q H
      refine V_iconst (v := 1) (by decide) eX23_round_101 ?_
      refine V_goto eX23_round_102 ?_
      exact V_fg2 (b_X23_round_106 hk58 H) (zfg_k (zfg_n (zfg_k (zfg_k (zfg_n zfg_e)))))
theorem b_X23_round_58 {w : Wd} {F : Nat} {x : Nat} : ∀ (n : Nat) (a1 : Int32) (a2 : Int32) (h : Hp) (y : Int32) (h1 : Hp) (c s : Nat), d_X23_round_58 w F x n a1 a2 h = some (y, h1, c, s) → V w mX23_round cX23_round 1 c s h 58 [some (va_rf (some x)), some (.int a1), some (.int a2), none, none] [] (Ro (oI y) h1) := by
  intro n
  induction n with
  | zero => intro a1 a2 h y h1 c s H; exact zno_no H
  | succ n ih => intro a1 a2 h y h1 c s H; exact bB_X23_round_58 ih H
theorem bB_X23_round_19 {w : Wd} {F : Nat} {k2 : Int32 → M Int32} {k19 : Int32 → M Int32} {x : Nat} {a1 : Int32} (hk2 : ∀ (a1 : Int32) (h : Hp) (y : Int32) (h1 : Hp) (c s : Nat), k2 a1 h = some (y, h1, c, s) → V w mX23_round cX23_round 1 c s h 2 [some (va_rf (some x)), some (.int a1), none, none, none] [] (Ro (oI y) h1)) (hk19 : ∀ (a2 : Int32) (h : Hp) (y : Int32) (h1 : Hp) (c s : Nat), k19 a2 h = some (y, h1, c, s) → V w mX23_round cX23_round 1 c s h 19 [some (va_rf (some x)), some (.int a1), some (.int a2), none, none] [] (Ro (oI y) h1)) {a2 : Int32} {h h1 : Hp} {y : Int32} {c s : Nat} (H : B_X23_round_19 w F k2 k19 x a1 a2 h = some (y, h1, c, s)) : V w mX23_round cX23_round 1 c s h 19 [some (va_rf (some x)), some (.int a1), some (.int a2), none, none] [] (Ro (oI y) h1) := by
  unfold B_X23_round_19 at H
  refine V_iload2 eX23_round_19 ?_
  refine V_aload0 eX23_round_20 (zrf_rf _) ?_
  refine D_gI eX23_round_21 fq_X23_19_tI H (fun v3 H => ?_)
  refine V_if_icmpge eX23_round_24 (fun q => ?_) (fun q => ?_)
  · have H := zif_t q H
    refine V_iinc1 (znl_rf _) eX23_round_48 rfl (v := 1) (by decide) ?_
    refine V_goto eX23_round_51 ?_
    exact V_fg2 (hk2 _ _ _ _ _ _ H) (zfg_k (zfg_k (zfg_n (zfg_n (zfg_n zfg_e)))))
  · have H := zif_f q H
    refine V_aload0 eX23_round_27 (zrf_rf _) ?_
    refine D_gR eX23_round_28 fq_X23_37_tR H (fun v4 H => ?_)
    refine V_iload1 eX23_round_31 ?_
    refine V_dup2 rfl (zcr _) eX23_round_32 ?_
    refine D_laload eX23_round_33 H (fun v5 H => ?_)
    refine V_aload0 eX23_round_34 (zrf_rf _) ?_
    refine V_iload2 eX23_round_35 ?_
    refine V_iload1 eX23_round_36 ?_
    refine D_callL (pc' := 40) (st := [.long v5, .int a1, va_rf v4]) H (fun v h' c1 s1 e cb sb k => ?_) (fun v6 h c s H => ?_)
    · obtain ⟨a, hr, ha, hk, e9⟩ := zv1_ok e
      cases hr
      exact V_invokevirtual (k := 23) eX23_round_37 lmX23_part q1506 q1508 rfl rfl qs43 ha hk (c_X23_part e9) (hRet_oL _ _) rfl rfl rfl (by simp only [List.map_cons, List.map_nil, zcr]; rfl) (kOL k)
    refine V_ladd eX23_round_40 ?_
    refine D_lastore eX23_round_41 H (fun h H => ?_)
    refine V_iinc2 rfl eX23_round_42 rfl (v := 1) (by decide) ?_
    refine V_goto eX23_round_45 ?_
    exact V_fg2 (hk19 _ _ _ _ _ _ H) (zfg_k (zfg_k (zfg_k (zfg_n (zfg_n zfg_e)))))
theorem b_X23_round_19 {w : Wd} {F : Nat} {k2 : Int32 → M Int32} {x : Nat} {a1 : Int32} (hk2 : ∀ (a1 : Int32) (h : Hp) (y : Int32) (h1 : Hp) (c s : Nat), k2 a1 h = some (y, h1, c, s) → V w mX23_round cX23_round 1 c s h 2 [some (va_rf (some x)), some (.int a1), none, none, none] [] (Ro (oI y) h1)) : ∀ (n : Nat) (a2 : Int32) (h : Hp) (y : Int32) (h1 : Hp) (c s : Nat), d_X23_round_19 w F k2 x a1 n a2 h = some (y, h1, c, s) → V w mX23_round cX23_round 1 c s h 19 [some (va_rf (some x)), some (.int a1), some (.int a2), none, none] [] (Ro (oI y) h1) := by
  intro n
  induction n with
  | zero => intro a2 h y h1 c s H; exact zno_no H
  | succ n ih => intro a2 h y h1 c s H; exact bB_X23_round_19 hk2 ih H
theorem bB_X23_round_2 {w : Wd} {F : Nat} {k2 : Int32 → M Int32} {x : Nat} (hk2 : ∀ (a1 : Int32) (h : Hp) (y : Int32) (h1 : Hp) (c s : Nat), k2 a1 h = some (y, h1, c, s) → V w mX23_round cX23_round 1 c s h 2 [some (va_rf (some x)), some (.int a1), none, none, none] [] (Ro (oI y) h1)) {a1 : Int32} {h h1 : Hp} {y : Int32} {c s : Nat} (H : B_X23_round_2 w F k2 x a1 h = some (y, h1, c, s)) : V w mX23_round cX23_round 1 c s h 2 [some (va_rf (some x)), some (.int a1), none, none, none] [] (Ro (oI y) h1) := by
  unfold B_X23_round_2 at H
  refine V_iload1 eX23_round_2 ?_
  refine V_aload0 eX23_round_3 (zrf_rf _) ?_
  refine D_gI eX23_round_4 fq_X23_19_tI H (fun v1 H => ?_)
  refine V_if_icmpge eX23_round_7 (fun q => ?_) (fun q => ?_)
  · have H := zif_t q H
    refine V_iconst (v := 0) (by decide) eX23_round_54 ?_
    refine V_istore1 (znl_rf _) eX23_round_55 rfl ?_
    refine V_iconst (v := 0) (by decide) eX23_round_56 ?_
    refine V_istore2 rfl eX23_round_57 rfl ?_
    exact V_fg2 (b_X23_round_58 _ _ _ _ _ _ _ _ H) (zfg_k (zfg_k (zfg_k (zfg_n (zfg_n zfg_e)))))
  · have H := zif_f q H
    refine V_aload0 eX23_round_10 (zrf_rf _) ?_
    refine D_gR eX23_round_11 fq_X23_37_tR H (fun v2 H => ?_)
    refine V_iload1 eX23_round_14 ?_
    refine V_lconst (v := 0) (by decide) eX23_round_15 ?_
    refine D_lastore eX23_round_16 H (fun h H => ?_)
    refine V_iconst (v := 0) (by decide) eX23_round_17 ?_
    refine V_istore2 rfl eX23_round_18 rfl ?_
    exact V_fg2 (b_X23_round_19 hk2 _ _ _ _ _ _ _ H) (zfg_k (zfg_k (zfg_k (zfg_n (zfg_n zfg_e)))))
theorem b_X23_round_2 {w : Wd} {F : Nat} {x : Nat} : ∀ (n : Nat) (a1 : Int32) (h : Hp) (y : Int32) (h1 : Hp) (c s : Nat), d_X23_round_2 w F x n a1 h = some (y, h1, c, s) → V w mX23_round cX23_round 1 c s h 2 [some (va_rf (some x)), some (.int a1), none, none, none] [] (Ro (oI y) h1) := by
  intro n
  induction n with
  | zero => intro a1 h y h1 c s H; exact zno_no H
  | succ n ih => intro a1 h y h1 c s H; exact bB_X23_round_2 ih H
theorem c_X23_round {w : Wd} {F : Nat} {x : Nat} {h h1 : Hp} {y : Int32} {c s : Nat} (H : o_X23_round w F x h = some (y, h1, c, s)) : Con w mX23_round cX23_round 1 c s [.ref x] h (Ro (oI y) h1) := by
  unfold o_X23_round at H
  refine Con.of (ls := [some (va_rf (some x)), none, none, none, none]) (by decide +kernel) rfl rfl ?_
  refine V_iconst (v := 0) (by decide) eX23_round_0 ?_
  refine V_istore1 (znl_rf _) eX23_round_1 rfl ?_
  exact V_fg2 (b_X23_round_2 _ _ _ _ _ _ _ H) (zfg_k (zfg_k (zfg_n (zfg_n (zfg_n zfg_e)))))
def f_X23_this_0 : Nat → Option Nat := fun k => match k with
  | 23 => some 6
  | _ => none
theorem fq_X23_3_tR : FQ RX23 3 f_X23_this_0 tR := by
  intro k j e
  unfold f_X23_this_0 at e
  split at e
  · cases e; exact ⟨fl_X23_3_23, Or.inl ⟨_, rfl⟩⟩
  · cases e
theorem fn_X23_init_3 : FN mX23_init 3 f_X23_this_0 := by
  intro k j e
  unfold f_X23_this_0 at e
  split at e
  · cases e; exact Or.inr ⟨rfl, rfl, rfl, _, q1519, rfl⟩
  · cases e
theorem fq_X23_15_tI : FQ RX23 15 f_X0_schemes tI := by
  intro k j e
  unfold f_X0_schemes at e
  split at e
  · cases e; exact ⟨fl_X23_15_0, Or.inl rfl⟩
  · cases e
theorem fq_X23_19_tN : FQ RX23 19 f_X23_many tN := by
  intro k j e
  unfold f_X23_many at e
  split at e
  · cases e; exact ⟨fl_X23_19_23, rfl⟩
  · cases e
theorem fn_X23_init_19 : FN mX23_init 19 f_X23_many := by
  intro k j e
  unfold f_X23_many at e
  split at e
  · cases e; exact Or.inr ⟨rfl, rfl, rfl, _, q1511, rfl⟩
  · cases e
theorem fn_X23_init_24 : FN mX23_init 24 f_X23_owes := by
  intro k j e
  unfold f_X23_owes at e
  split at e
  · cases e; exact Or.inr ⟨rfl, rfl, rfl, _, q1513, rfl⟩
  · cases e
theorem fn_X23_init_27 : FN mX23_init 27 f_X23_all := by
  intro k j e
  unfold f_X23_all at e
  split at e
  · cases e; exact Or.inr ⟨rfl, rfl, rfl, _, q1515, rfl⟩
  · cases e
theorem fn_X23_init_31 : FN mX23_init 31 f_X23_has := by
  intro k j e
  unfold f_X23_has at e
  split at e
  · cases e; exact Or.inr ⟨rfl, rfl, rfl, _, q1516, rfl⟩
  · cases e
theorem fn_X23_init_34 : FN mX23_init 34 f_X23_pays := by
  intro k j e
  unfold f_X23_pays at e
  split at e
  · cases e; exact Or.inr ⟨rfl, rfl, rfl, _, q1517, rfl⟩
  · cases e
theorem fn_X23_init_37 : FN mX23_init 37 f_X23_comes := by
  intro k j e
  unfold f_X23_comes at e
  split at e
  · cases e; exact Or.inr ⟨rfl, rfl, rfl, _, q1518, rfl⟩
  · cases e
theorem fq_X23_43_tR : FQ RX23 43 f_X0_papers tR := by
  intro k j e
  unfold f_X0_papers at e
  split at e
  · cases e; exact ⟨fl_X23_43_0, Or.inl ⟨_, rfl⟩⟩
  · cases e
def y_X21 : Nat → Bool := fun k => match k with
  | 21 => true
  | 22 => true
  | _ => false
theorem y_X21_ok : ∀ k, y_X21 k = true → zok k = true ∧ ((zcl k).1 = "LinesPromised$Call" ∨ Cond.castable (zcl k).1 "LinesPromised$Call" ∈ lw_tbl) := by
  intro k e
  unfold y_X21 at e
  split at e
  · exact ⟨by decide, Or.inl rfl⟩
  · exact ⟨by decide, Or.inr q2427⟩
  · cases e
def n_X21 : Nat → Bool := fun k => match k with
  | 0 => true
  | 1 => true
  | 2 => true
  | 3 => true
  | 4 => true
  | 5 => true
  | 6 => true
  | 8 => true
  | 9 => true
  | 10 => true
  | 11 => true
  | 13 => true
  | 15 => true
  | 16 => true
  | 17 => true
  | 18 => true
  | 19 => true
  | 20 => true
  | 23 => true
  | 24 => true
  | 26 => true
  | 27 => true
  | 28 => true
  | 30 => true
  | _ => false
theorem n_X21_ok : ∀ k, n_X21 k = true → zok k = true ∧ ((zcl k).1, "LinesPromised$Call") ∈ zNC := by
  intro k e
  unfold n_X21 at e
  split at e
  · exact ⟨by decide, by decide +kernel⟩
  · exact ⟨by decide, by decide +kernel⟩
  · exact ⟨by decide, by decide +kernel⟩
  · exact ⟨by decide, by decide +kernel⟩
  · exact ⟨by decide, by decide +kernel⟩
  · exact ⟨by decide, by decide +kernel⟩
  · exact ⟨by decide, by decide +kernel⟩
  · exact ⟨by decide, by decide +kernel⟩
  · exact ⟨by decide, by decide +kernel⟩
  · exact ⟨by decide, by decide +kernel⟩
  · exact ⟨by decide, by decide +kernel⟩
  · exact ⟨by decide, by decide +kernel⟩
  · exact ⟨by decide, by decide +kernel⟩
  · exact ⟨by decide, by decide +kernel⟩
  · exact ⟨by decide, by decide +kernel⟩
  · exact ⟨by decide, by decide +kernel⟩
  · exact ⟨by decide, by decide +kernel⟩
  · exact ⟨by decide, by decide +kernel⟩
  · exact ⟨by decide, by decide +kernel⟩
  · exact ⟨by decide, by decide +kernel⟩
  · exact ⟨by decide, by decide +kernel⟩
  · exact ⟨by decide, by decide +kernel⟩
  · exact ⟨by decide, by decide +kernel⟩
  · exact ⟨by decide, by decide +kernel⟩
  · cases e
theorem fq_X23_71_tI : FQ RX23 71 f_X21_settled tI := by
  intro k j e
  unfold f_X21_settled at e
  split at e
  · cases e; exact ⟨fl_X23_71_21, Or.inr (Or.inl rfl)⟩
  · cases e; exact ⟨fl_X23_71_22, Or.inr (Or.inl rfl)⟩
  · cases e
theorem fq_X23_75_tR : FQ RX23 75 f_X21_scheme tR := by
  intro k j e
  unfold f_X21_scheme at e
  split at e
  · cases e; exact ⟨fl_X23_75_21, Or.inl ⟨_, rfl⟩⟩
  · cases e; exact ⟨fl_X23_75_22, Or.inl ⟨_, rfl⟩⟩
  · cases e
theorem fq_X23_57_tI : FQ RX23 57 f_X13_place tI := by
  intro k j e
  unfold f_X13_place at e
  split at e
  · cases e; exact ⟨fl_X23_57_13, Or.inl rfl⟩
  · cases e; exact ⟨fl_X23_57_15, Or.inl rfl⟩
  · cases e; exact ⟨fl_X23_57_18, Or.inl rfl⟩
  · cases e
def y_X22 : Nat → Bool := fun k => match k with
  | 22 => true
  | _ => false
theorem y_X22_ok : ∀ k, y_X22 k = true → zok k = true ∧ ((zcl k).1 = "LinesPromised$Loan" ∨ Cond.castable (zcl k).1 "LinesPromised$Loan" ∈ lw_tbl) := by
  intro k e
  unfold y_X22 at e
  split at e
  · exact ⟨by decide, Or.inl rfl⟩
  · cases e
def n_X22 : Nat → Bool := fun k => match k with
  | 0 => true
  | 1 => true
  | 2 => true
  | 3 => true
  | 4 => true
  | 5 => true
  | 6 => true
  | 8 => true
  | 9 => true
  | 10 => true
  | 11 => true
  | 13 => true
  | 15 => true
  | 16 => true
  | 17 => true
  | 18 => true
  | 19 => true
  | 20 => true
  | 21 => true
  | 23 => true
  | 24 => true
  | 26 => true
  | 27 => true
  | 28 => true
  | 30 => true
  | _ => false
theorem n_X22_ok : ∀ k, n_X22 k = true → zok k = true ∧ ((zcl k).1, "LinesPromised$Loan") ∈ zNC := by
  intro k e
  unfold n_X22 at e
  split at e
  · exact ⟨by decide, by decide +kernel⟩
  · exact ⟨by decide, by decide +kernel⟩
  · exact ⟨by decide, by decide +kernel⟩
  · exact ⟨by decide, by decide +kernel⟩
  · exact ⟨by decide, by decide +kernel⟩
  · exact ⟨by decide, by decide +kernel⟩
  · exact ⟨by decide, by decide +kernel⟩
  · exact ⟨by decide, by decide +kernel⟩
  · exact ⟨by decide, by decide +kernel⟩
  · exact ⟨by decide, by decide +kernel⟩
  · exact ⟨by decide, by decide +kernel⟩
  · exact ⟨by decide, by decide +kernel⟩
  · exact ⟨by decide, by decide +kernel⟩
  · exact ⟨by decide, by decide +kernel⟩
  · exact ⟨by decide, by decide +kernel⟩
  · exact ⟨by decide, by decide +kernel⟩
  · exact ⟨by decide, by decide +kernel⟩
  · exact ⟨by decide, by decide +kernel⟩
  · exact ⟨by decide, by decide +kernel⟩
  · exact ⟨by decide, by decide +kernel⟩
  · exact ⟨by decide, by decide +kernel⟩
  · exact ⟨by decide, by decide +kernel⟩
  · exact ⟨by decide, by decide +kernel⟩
  · exact ⟨by decide, by decide +kernel⟩
  · exact ⟨by decide, by decide +kernel⟩
  · cases e
theorem fq_X23_87_tI : FQ RX23 87 f_X21_pence tI := by
  intro k j e
  unfold f_X21_pence at e
  split at e
  · cases e; exact ⟨fl_X23_87_21, Or.inl rfl⟩
  · cases e; exact ⟨fl_X23_87_22, Or.inl rfl⟩
  · cases e
theorem fq_X23_88_tR : FQ RX23 88 f_X13_held tR := by
  intro k j e
  unfold f_X13_held at e
  split at e
  · cases e; exact ⟨fl_X23_88_13, Or.inr ⟨_, rfl⟩⟩
  · cases e; exact ⟨fl_X23_88_15, Or.inr ⟨_, rfl⟩⟩
  · cases e; exact ⟨fl_X23_88_18, Or.inr ⟨_, rfl⟩⟩
  · cases e
theorem fq_X23_81_tI : FQ RX23 81 f_X22_holder tI := by
  intro k j e
  unfold f_X22_holder at e
  split at e
  · cases e; exact ⟨fl_X23_81_22, Or.inl rfl⟩
  · cases e
def f_X22_pence : Nat → Option Nat := fun k => match k with
  | 21 => some 3
  | 22 => some 3
  | _ => none
theorem fq_X23_84_tI : FQ RX23 84 f_X22_pence tI := by
  intro k j e
  unfold f_X22_pence at e
  split at e
  · cases e; exact ⟨fl_X23_84_21, Or.inl rfl⟩
  · cases e; exact ⟨fl_X23_84_22, Or.inl rfl⟩
  · cases e
theorem fq_X23_62_tL : FQ RX23 62 f_X13_coins tL := by
  intro k j e
  unfold f_X13_coins at e
  split at e
  · cases e; exact ⟨fl_X23_62_13, rfl⟩
  · cases e; exact ⟨fl_X23_62_15, rfl⟩
  · cases e; exact ⟨fl_X23_62_18, rfl⟩
  · cases e
theorem fq_X23_40_tR : FQ RX23 40 f_X0_coins tR := by
  intro k j e
  unfold f_X0_coins at e
  split at e
  · cases e; exact ⟨fl_X23_40_0, Or.inr ⟨_, rfl⟩⟩
  · cases e
def d_X23_init_361 (w : Wd) (F : Nat) : M Unit :=
  zrt ()
def B_X23_init_339 (w : Wd) (F : Nat) (k339 : Int32 → Int32 → M Unit) (x : Nat) (a2 : Int32) (a3 : Int32) : M Unit :=
  zif ((300 : Int32) ≤ a3) (d_X23_init_361 w F)
  (zif (a2 = 0) (d_X23_init_361 w F)
  (zbd (zv1 23 (some x) (fun a => o_X23_round w F a)) fun v18 =>
  k339 v18 (a3 + (1 : Int32))))
def d_X23_init_339 (w : Wd) (F : Nat) (x : Nat) : Nat → Int32 → Int32 → M Unit
  | 0, _, _ => zno
  | n + 1, a2, a3 => B_X23_init_339 w F (d_X23_init_339 w F x n) x a2 a3
def B_X23_init_298 (w : Wd) (F : Nat) (k288 : Int32 → M Unit) (k298 : Int32 → M Unit) (x : Nat) (a2 : Int32) (a3 : Int32) : M Unit :=
  zbd (zgI f_X23_many (some x)) fun v18 =>
  zif (v18 ≤ a3) (k288 (a2 + (1 : Int32)))
  (zbd (zgR f_X23_all (some x)) fun v19 =>
  zbd (zaL v19 a2) fun v20 =>
  zbd (zgR f_X23_owes (some x)) fun v21 =>
  zbd (zaR v21 a2) fun v22 =>
  zbd (zaL v22 a3) fun v23 =>
  zbd (zsL v19 a2 (v20 + v23)) fun _ =>
  k298 (a3 + (1 : Int32)))
def d_X23_init_298 (w : Wd) (F : Nat) (k288 : Int32 → M Unit) (x : Nat) (a2 : Int32) : Nat → Int32 → M Unit
  | 0, _ => zno
  | n + 1, a3 => B_X23_init_298 w F k288 (d_X23_init_298 w F k288 x a2 n) x a2 a3
def B_X23_init_288 (w : Wd) (F : Nat) (k288 : Int32 → M Unit) (x : Nat) (a2 : Int32) : M Unit :=
  zbd (zgI f_X23_many (some x)) fun v17 =>
  zif (v17 ≤ a2) (d_X23_init_339 w F x F (1 : Int32) (0 : Int32))
  (d_X23_init_298 w F k288 x a2 F (0 : Int32))
def d_X23_init_288 (w : Wd) (F : Nat) (x : Nat) : Nat → Int32 → M Unit
  | 0, _ => zno
  | n + 1, a2 => B_X23_init_288 w F (d_X23_init_288 w F x n) x a2
def d_X23_init_280 (w : Wd) (F : Nat) (k107 : Int32 → M Unit) (x : Nat) (a1 : Option Nat) (a2 : Int32) : M Unit :=
  k107 (a2 + (1 : Int32))
def B_X23_init_237 (w : Wd) (F : Nat) (k107 : Int32 → M Unit) (k237 : Int32 → M Unit) (x : Nat) (a1 : Option Nat) (a2 : Int32) (a3 : Option Nat) (a4 : Int32) (a6 : Int32) : M Unit :=
  zif ((8 : Int32) ≤ a6) (d_X23_init_280 w F k107 x a1 a2)
  (zbd (zgR f_X23_owes (some x)) fun v25 =>
  zbd (zaR v25 a6) fun v26 =>
  zbd (zaL v26 a4) fun v27 =>
  zbd (zgI f_X21_pence a3) fun v28 =>
  zbd (zgR f_X21_scheme a3) fun v29 =>
  zbd (zgR f_X13_held v29) fun v30 =>
  zbd (zaI 0 v30 a6) fun v31 =>
  zbd (zsL v26 a4 (v27 + ((v28).toInt64 * (v31).toInt64))) fun _ =>
  k237 (a6 + (1 : Int32)))
def d_X23_init_237 (w : Wd) (F : Nat) (k107 : Int32 → M Unit) (x : Nat) (a1 : Option Nat) (a2 : Int32) (a3 : Option Nat) (a4 : Int32) : Nat → Int32 → M Unit
  | 0, _ => zno
  | n + 1, a6 => B_X23_init_237 w F k107 (d_X23_init_237 w F k107 x a1 a2 a3 a4 n) x a1 a2 a3 a4 a6
def d_X23_init_150 (w : Wd) (F : Nat) (k107 : Int32 → M Unit) (x : Nat) (a1 : Option Nat) (a2 : Int32) : M Unit :=
  zbd (zgR f_X0_papers a1) fun v18 =>
  zbd (zv1 30 v18 (fun a => o_J2_get w F a a2)) fun v19 =>
  zbd (zio y_X21 n_X21 v19) fun v20 =>
  zif (v20 = 0) (d_X23_init_280 w F k107 x a1 a2)
  (zbd (zcc y_X21 v19) fun _ =>
  zbd (zgI f_X21_settled v19) fun v21 =>
  zif (v21 = 0) (zbd (zgR f_X21_scheme v19) fun v22 =>
  zbd (zgI f_X13_place v22) fun v23 =>
  zbd (zio y_X22 n_X22 v19) fun v24 =>
  zif (v24 = 0) (d_X23_init_237 w F k107 x a1 a2 v19 ((8 : Int32) + v23) F (0 : Int32))
  (zbd (zcc y_X22 v19) fun _ =>
  zbd (zgR f_X23_owes (some x)) fun v25 =>
  zbd (zaR v25 ((8 : Int32) + v23)) fun v26 =>
  zbd (zgI f_X22_holder v19) fun v27 =>
  zbd (zaL v26 v27) fun v28 =>
  zbd (zgI f_X22_pence v19) fun v29 =>
  zbd (zsL v26 v27 (v28 + (v29).toInt64)) fun _ =>
  d_X23_init_280 w F k107 x a1 a2))
  (d_X23_init_280 w F k107 x a1 a2))
def B_X23_init_107 (w : Wd) (F : Nat) (k107 : Int32 → M Unit) (x : Nat) (a1 : Option Nat) (a2 : Int32) : M Unit :=
  zbd (zgR f_X0_papers a1) fun v15 =>
  zbd (zv1 30 v15 (fun a => o_J2_size w F a)) fun v16 =>
  zif (v16 ≤ a2) (d_X23_init_288 w F x F (0 : Int32))
  (zbd (zv1 0 a1 (fun a => o_X0_schemeAt w F a a2)) fun v17 =>
  zif (v17 = none) (d_X23_init_150 w F k107 x a1 a2)
  (zbd (zgR f_X23_has (some x)) fun v18 =>
  zbd (zv1 0 a1 (fun a => o_X0_schemeAt w F a a2)) fun v19 =>
  zbd (zgI f_X13_place v19) fun v20 =>
  zbd (zv1 0 a1 (fun a => o_X0_schemeAt w F a a2)) fun v21 =>
  zbd (zgL f_X13_coins v21) fun v22 =>
  zbd (zsL v18 ((8 : Int32) + v20) v22) fun _ =>
  d_X23_init_150 w F k107 x a1 a2))
def d_X23_init_107 (w : Wd) (F : Nat) (x : Nat) (a1 : Option Nat) : Nat → Int32 → M Unit
  | 0, _ => zno
  | n + 1, a2 => B_X23_init_107 w F (d_X23_init_107 w F x a1 n) x a1 a2
def B_X23_init_81 (w : Wd) (F : Nat) (k81 : Int32 → M Unit) (x : Nat) (a1 : Option Nat) (a2 : Int32) : M Unit :=
  zif ((8 : Int32) ≤ a2) (d_X23_init_107 w F x a1 F (0 : Int32))
  (zbd (zgR f_X23_has (some x)) fun v15 =>
  zbd (zgR f_X0_coins a1) fun v16 =>
  zbd (zaL v16 a2) fun v17 =>
  zbd (zsL v15 a2 v17) fun _ =>
  k81 (a2 + (1 : Int32)))
def d_X23_init_81 (w : Wd) (F : Nat) (x : Nat) (a1 : Option Nat) : Nat → Int32 → M Unit
  | 0, _ => zno
  | n + 1, a2 => B_X23_init_81 w F (d_X23_init_81 w F x a1 n) x a1 a2
def o_X23_init (w : Wd) (F : Nat) (x : Nat) (a1 : Option Nat) : M Unit :=
  zbd (zpR f_X23_this_0 (some x) a1) fun _ =>
  zbd (zgR f_X23_this_0 (some x)) fun v2 =>
  zbd (zgI f_X0_schemes v2) fun v3 =>
  zbd (zpI f_X23_many (some x) ((8 : Int32) + v3)) fun _ =>
  zbd (zgI f_X23_many (some x)) fun v4 =>
  zbd (zgI f_X23_many (some x)) fun v5 =>
  zbd (zma v4 v5) fun n6 =>
  zbd (zpR f_X23_owes (some x) n6) fun _ =>
  zbd (zgI f_X23_many (some x)) fun v7 =>
  zbd (znA 150 (zgo (some x) 6) v7) fun n8 =>
  zbd (zpR f_X23_all (some x) n8) fun _ =>
  zbd (zgI f_X23_many (some x)) fun v9 =>
  zbd (znA 150 (zgo (some x) 7) v9) fun n10 =>
  zbd (zpR f_X23_has (some x) n10) fun _ =>
  zbd (zgI f_X23_many (some x)) fun v11 =>
  zbd (znA 150 (zgo (some x) 8) v11) fun n12 =>
  zbd (zpR f_X23_pays (some x) n12) fun _ =>
  zbd (zgI f_X23_many (some x)) fun v13 =>
  zbd (znA 150 (zgo (some x) 9) v13) fun n14 =>
  zbd (zpR f_X23_comes (some x) n14) fun _ =>
  d_X23_init_81 w F x a1 F (0 : Int32)
theorem b_X23_init_361 {w : Wd} {F : Nat} (hMA : MAp w) {h h1 : Hp} {y : Unit} {c s : Nat} (H : d_X23_init_361 w F h = some (y, h1, c, s)) : V w mX23_init cX23_init 5 c s h 361 [none, none, none, none, none, none, none] [] (Ro (oU y) h1) := by
  unfold d_X23_init_361 at H
  obtain ⟨rfl, rfl, rfl, rfl⟩ := zrt_ok H
  exact V_return (x := ()) eX23_init_361 rfl ⟨rfl, rfl⟩
theorem bB_X23_init_339 {w : Wd} {F : Nat} (hMA : MAp w) {k339 : Int32 → Int32 → M Unit} {x : Nat} (hk339 : ∀ (a2 : Int32) (a3 : Int32) (h : Hp) (y : Unit) (h1 : Hp) (c s : Nat), k339 a2 a3 h = some (y, h1, c, s) → V w mX23_init cX23_init 5 c s h 339 [some (va_rf (some x)), none, some (.int a2), some (.int a3), none, none, none] [] (Ro (oU y) h1)) {a2 : Int32} {a3 : Int32} {h h1 : Hp} {y : Unit} {c s : Nat} (H : B_X23_init_339 w F k339 x a2 a3 h = some (y, h1, c, s)) : V w mX23_init cX23_init 5 c s h 339 [some (va_rf (some x)), none, some (.int a2), some (.int a3), none, none, none] [] (Ro (oU y) h1) := by
  unfold B_X23_init_339 at H
  refine V_iload3 eX23_init_339 ?_
  refine V_sipush (v := 300) (by decide) eX23_init_340 ?_
  refine V_if_icmpge eX23_init_343 (fun q => ?_) (fun q => ?_)
  · have H := zif_t q H
    exact V_fg2 (b_X23_init_361 hMA H) (zfg_n (zfg_n (zfg_n (zfg_n (zfg_n (zfg_n (zfg_n zfg_e)))))))
  · have H := zif_f q H
    refine V_iload2 eX23_init_346 ?_
    refine V_ifeq eX23_init_347 (fun q => ?_) (fun q => ?_)
    · have H := zif_t q H
      exact V_fg2 (b_X23_init_361 hMA H) (zfg_n (zfg_n (zfg_n (zfg_n (zfg_n (zfg_n (zfg_n zfg_e)))))))
    · have H := zif_f q H
      refine V_aload0 eX23_init_350 (zrf_rf _) ?_
      refine D_callI (pc' := 354) (st := []) H (fun v h' c1 s1 e cb sb k => ?_) (fun v18 h c s H => ?_)
      · obtain ⟨a, hr, ha, hk, e9⟩ := zv1_ok e
        cases hr
        exact V_invokevirtual (k := 23) eX23_init_351 lmX23_round q1502 q1504 rfl rfl qs42 ha hk (c_X23_round e9) (hRet_oI _ _) rfl rfl rfl rfl (kOI k)
      refine V_istore2 rfl eX23_init_354 rfl ?_
      refine V_iinc3 rfl eX23_init_355 rfl (v := 1) (by decide) ?_
      refine V_goto eX23_init_358 ?_
      exact V_fg2 (hk339 _ _ _ _ _ _ _ H) (zfg_k (zfg_n (zfg_k (zfg_k (zfg_n (zfg_n (zfg_n zfg_e)))))))
theorem b_X23_init_339 {w : Wd} {F : Nat} (hMA : MAp w) {x : Nat} : ∀ (n : Nat) (a2 : Int32) (a3 : Int32) (h : Hp) (y : Unit) (h1 : Hp) (c s : Nat), d_X23_init_339 w F x n a2 a3 h = some (y, h1, c, s) → V w mX23_init cX23_init 5 c s h 339 [some (va_rf (some x)), none, some (.int a2), some (.int a3), none, none, none] [] (Ro (oU y) h1) := by
  intro n
  induction n with
  | zero => intro a2 a3 h y h1 c s H; exact zno_no H
  | succ n ih => intro a2 a3 h y h1 c s H; exact bB_X23_init_339 hMA ih H
theorem bB_X23_init_298 {w : Wd} {F : Nat} (hMA : MAp w) {k288 : Int32 → M Unit} {k298 : Int32 → M Unit} {x : Nat} {a2 : Int32} (hk288 : ∀ (a2 : Int32) (h : Hp) (y : Unit) (h1 : Hp) (c s : Nat), k288 a2 h = some (y, h1, c, s) → V w mX23_init cX23_init 5 c s h 288 [some (va_rf (some x)), none, some (.int a2), none, none, none, none] [] (Ro (oU y) h1)) (hk298 : ∀ (a3 : Int32) (h : Hp) (y : Unit) (h1 : Hp) (c s : Nat), k298 a3 h = some (y, h1, c, s) → V w mX23_init cX23_init 5 c s h 298 [some (va_rf (some x)), none, some (.int a2), some (.int a3), none, none, none] [] (Ro (oU y) h1)) {a3 : Int32} {h h1 : Hp} {y : Unit} {c s : Nat} (H : B_X23_init_298 w F k288 k298 x a2 a3 h = some (y, h1, c, s)) : V w mX23_init cX23_init 5 c s h 298 [some (va_rf (some x)), none, some (.int a2), some (.int a3), none, none, none] [] (Ro (oU y) h1) := by
  unfold B_X23_init_298 at H
  refine V_iload3 eX23_init_298 ?_
  refine V_aload0 eX23_init_299 (zrf_rf _) ?_
  refine D_gI eX23_init_300 fq_X23_19_tI H (fun v18 H => ?_)
  refine V_if_icmpge eX23_init_303 (fun q => ?_) (fun q => ?_)
  · have H := zif_t q H
    refine V_iinc2 rfl eX23_init_329 rfl (v := 1) (by decide) ?_
    refine V_goto eX23_init_332 ?_
    exact V_fg2 (hk288 _ _ _ _ _ _ H) (zfg_k (zfg_n (zfg_k (zfg_n (zfg_n (zfg_n (zfg_n zfg_e)))))))
  · have H := zif_f q H
    refine V_aload0 eX23_init_306 (zrf_rf _) ?_
    refine D_gR eX23_init_307 fq_X23_27_tR H (fun v19 H => ?_)
    refine V_iload2 eX23_init_310 ?_
    refine V_dup2 rfl (zcr _) eX23_init_311 ?_
    refine D_laload eX23_init_312 H (fun v20 H => ?_)
    refine V_aload0 eX23_init_313 (zrf_rf _) ?_
    refine D_gR eX23_init_314 fq_X23_24_tR H (fun v21 H => ?_)
    refine V_iload2 eX23_init_317 ?_
    refine D_aaload eX23_init_318 H (fun v22 H => ?_)
    refine V_iload3 eX23_init_319 ?_
    refine D_laload eX23_init_320 H (fun v23 H => ?_)
    refine V_ladd eX23_init_321 ?_
    refine D_lastore eX23_init_322 H (fun h H => ?_)
    refine V_iinc3 rfl eX23_init_323 rfl (v := 1) (by decide) ?_
    refine V_goto eX23_init_326 ?_
    exact V_fg2 (hk298 _ _ _ _ _ _ H) (zfg_k (zfg_n (zfg_k (zfg_k (zfg_n (zfg_n (zfg_n zfg_e)))))))
theorem b_X23_init_298 {w : Wd} {F : Nat} (hMA : MAp w) {k288 : Int32 → M Unit} {x : Nat} {a2 : Int32} (hk288 : ∀ (a2 : Int32) (h : Hp) (y : Unit) (h1 : Hp) (c s : Nat), k288 a2 h = some (y, h1, c, s) → V w mX23_init cX23_init 5 c s h 288 [some (va_rf (some x)), none, some (.int a2), none, none, none, none] [] (Ro (oU y) h1)) : ∀ (n : Nat) (a3 : Int32) (h : Hp) (y : Unit) (h1 : Hp) (c s : Nat), d_X23_init_298 w F k288 x a2 n a3 h = some (y, h1, c, s) → V w mX23_init cX23_init 5 c s h 298 [some (va_rf (some x)), none, some (.int a2), some (.int a3), none, none, none] [] (Ro (oU y) h1) := by
  intro n
  induction n with
  | zero => intro a3 h y h1 c s H; exact zno_no H
  | succ n ih => intro a3 h y h1 c s H; exact bB_X23_init_298 hMA hk288 ih H
theorem bB_X23_init_288 {w : Wd} {F : Nat} (hMA : MAp w) {k288 : Int32 → M Unit} {x : Nat} (hk288 : ∀ (a2 : Int32) (h : Hp) (y : Unit) (h1 : Hp) (c s : Nat), k288 a2 h = some (y, h1, c, s) → V w mX23_init cX23_init 5 c s h 288 [some (va_rf (some x)), none, some (.int a2), none, none, none, none] [] (Ro (oU y) h1)) {a2 : Int32} {h h1 : Hp} {y : Unit} {c s : Nat} (H : B_X23_init_288 w F k288 x a2 h = some (y, h1, c, s)) : V w mX23_init cX23_init 5 c s h 288 [some (va_rf (some x)), none, some (.int a2), none, none, none, none] [] (Ro (oU y) h1) := by
  unfold B_X23_init_288 at H
  refine V_iload2 eX23_init_288 ?_
  refine V_aload0 eX23_init_289 (zrf_rf _) ?_
  refine D_gI eX23_init_290 fq_X23_19_tI H (fun v17 H => ?_)
  refine V_if_icmpge eX23_init_293 (fun q => ?_) (fun q => ?_)
  · have H := zif_t q H
    refine V_iconst (v := 1) (by decide) eX23_init_335 ?_
    refine V_istore2 rfl eX23_init_336 rfl ?_
    refine V_iconst (v := 0) (by decide) eX23_init_337 ?_
    refine V_istore3 rfl eX23_init_338 rfl ?_
    exact V_fg2 (b_X23_init_339 hMA _ _ _ _ _ _ _ _ H) (zfg_k (zfg_n (zfg_k (zfg_k (zfg_n (zfg_n (zfg_n zfg_e)))))))
  · have H := zif_f q H
    refine V_iconst (v := 0) (by decide) eX23_init_296 ?_
    refine V_istore3 rfl eX23_init_297 rfl ?_
    exact V_fg2 (b_X23_init_298 hMA hk288 _ _ _ _ _ _ _ H) (zfg_k (zfg_n (zfg_k (zfg_k (zfg_n (zfg_n (zfg_n zfg_e)))))))
theorem b_X23_init_288 {w : Wd} {F : Nat} (hMA : MAp w) {x : Nat} : ∀ (n : Nat) (a2 : Int32) (h : Hp) (y : Unit) (h1 : Hp) (c s : Nat), d_X23_init_288 w F x n a2 h = some (y, h1, c, s) → V w mX23_init cX23_init 5 c s h 288 [some (va_rf (some x)), none, some (.int a2), none, none, none, none] [] (Ro (oU y) h1) := by
  intro n
  induction n with
  | zero => intro a2 h y h1 c s H; exact zno_no H
  | succ n ih => intro a2 h y h1 c s H; exact bB_X23_init_288 hMA ih H
theorem b_X23_init_280 {w : Wd} {F : Nat} (hMA : MAp w) {k107 : Int32 → M Unit} {x : Nat} {a1 : Option Nat} (hk107 : ∀ (a2 : Int32) (h : Hp) (y : Unit) (h1 : Hp) (c s : Nat), k107 a2 h = some (y, h1, c, s) → V w mX23_init cX23_init 5 c s h 107 [some (va_rf (some x)), some (va_rf a1), some (.int a2), none, none, none, none] [] (Ro (oU y) h1)) {a2 : Int32} {h h1 : Hp} {y : Unit} {c s : Nat} (H : d_X23_init_280 w F k107 x a1 a2 h = some (y, h1, c, s)) : V w mX23_init cX23_init 5 c s h 280 [some (va_rf (some x)), some (va_rf a1), some (.int a2), none, none, none, none] [] (Ro (oU y) h1) := by
  unfold d_X23_init_280 at H
  refine V_iinc2 (znl_rf _) eX23_init_280 rfl (v := 1) (by decide) ?_
  refine V_goto eX23_init_283 ?_
  exact V_fg2 (hk107 _ _ _ _ _ _ H) (zfg_k (zfg_k (zfg_k (zfg_n (zfg_n (zfg_n (zfg_n zfg_e)))))))
theorem bB_X23_init_237 {w : Wd} {F : Nat} (hMA : MAp w) {k107 : Int32 → M Unit} {k237 : Int32 → M Unit} {x : Nat} {a1 : Option Nat} {a2 : Int32} {a3 : Option Nat} {a4 : Int32} (hk107 : ∀ (a2 : Int32) (h : Hp) (y : Unit) (h1 : Hp) (c s : Nat), k107 a2 h = some (y, h1, c, s) → V w mX23_init cX23_init 5 c s h 107 [some (va_rf (some x)), some (va_rf a1), some (.int a2), none, none, none, none] [] (Ro (oU y) h1)) (hk237 : ∀ (a6 : Int32) (h : Hp) (y : Unit) (h1 : Hp) (c s : Nat), k237 a6 h = some (y, h1, c, s) → V w mX23_init cX23_init 5 c s h 237 [some (va_rf (some x)), some (va_rf a1), some (.int a2), some (va_rf a3), some (.int a4), none, some (.int a6)] [] (Ro (oU y) h1)) {a6 : Int32} {h h1 : Hp} {y : Unit} {c s : Nat} (H : B_X23_init_237 w F k107 k237 x a1 a2 a3 a4 a6 h = some (y, h1, c, s)) : V w mX23_init cX23_init 5 c s h 237 [some (va_rf (some x)), some (va_rf a1), some (.int a2), some (va_rf a3), some (.int a4), none, some (.int a6)] [] (Ro (oU y) h1) := by
  unfold B_X23_init_237 at H
  refine V_iload6 eX23_init_237 ?_
  refine V_bipush (v := 8) (by decide) eX23_init_239 ?_
  refine V_if_icmpge eX23_init_241 (fun q => ?_) (fun q => ?_)
  · have H := zif_t q H
    exact V_fg2 (b_X23_init_280 hMA hk107 H) (zfg_k (zfg_k (zfg_k (zfg_n (zfg_n (zfg_n (zfg_n zfg_e)))))))
  · have H := zif_f q H
    refine V_aload0 eX23_init_244 (zrf_rf _) ?_
    refine D_gR eX23_init_245 fq_X23_24_tR H (fun v25 H => ?_)
    refine V_iload6 eX23_init_248 ?_
    refine D_aaload eX23_init_250 H (fun v26 H => ?_)
    refine V_iload4 eX23_init_251 ?_
    refine V_dup2 rfl (zcr _) eX23_init_253 ?_
    refine D_laload eX23_init_254 H (fun v27 H => ?_)
    refine V_aload3 eX23_init_255 (zrf_rf _) ?_
    refine D_gI eX23_init_256 fq_X23_87_tI H (fun v28 H => ?_)
    refine V_i2l eX23_init_259 ?_
    refine V_aload3 eX23_init_260 (zrf_rf _) ?_
    refine D_gR eX23_init_261 fq_X23_75_tR H (fun v29 H => ?_)
    refine D_gR eX23_init_264 fq_X23_88_tR H (fun v30 H => ?_)
    refine V_iload6 eX23_init_267 ?_
    refine D_iaload eX23_init_269 H (fun v31 H => ?_)
    refine V_i2l eX23_init_270 ?_
    refine V_lmul eX23_init_271 ?_
    refine V_ladd eX23_init_272 ?_
    refine D_lastore eX23_init_273 H (fun h H => ?_)
    refine V_iinc6 rfl eX23_init_274 rfl (v := 1) (by decide) ?_
    refine V_goto eX23_init_277 ?_
    exact V_fg2 (hk237 _ _ _ _ _ _ H) (zfg_k (zfg_k (zfg_k (zfg_k (zfg_k (zfg_n (zfg_k zfg_e)))))))
theorem b_X23_init_237 {w : Wd} {F : Nat} (hMA : MAp w) {k107 : Int32 → M Unit} {x : Nat} {a1 : Option Nat} {a2 : Int32} {a3 : Option Nat} {a4 : Int32} (hk107 : ∀ (a2 : Int32) (h : Hp) (y : Unit) (h1 : Hp) (c s : Nat), k107 a2 h = some (y, h1, c, s) → V w mX23_init cX23_init 5 c s h 107 [some (va_rf (some x)), some (va_rf a1), some (.int a2), none, none, none, none] [] (Ro (oU y) h1)) : ∀ (n : Nat) (a6 : Int32) (h : Hp) (y : Unit) (h1 : Hp) (c s : Nat), d_X23_init_237 w F k107 x a1 a2 a3 a4 n a6 h = some (y, h1, c, s) → V w mX23_init cX23_init 5 c s h 237 [some (va_rf (some x)), some (va_rf a1), some (.int a2), some (va_rf a3), some (.int a4), none, some (.int a6)] [] (Ro (oU y) h1) := by
  intro n
  induction n with
  | zero => intro a6 h y h1 c s H; exact zno_no H
  | succ n ih => intro a6 h y h1 c s H; exact bB_X23_init_237 hMA hk107 ih H
theorem b_X23_init_150 {w : Wd} {F : Nat} (hMA : MAp w) {k107 : Int32 → M Unit} {x : Nat} {a1 : Option Nat} (hk107 : ∀ (a2 : Int32) (h : Hp) (y : Unit) (h1 : Hp) (c s : Nat), k107 a2 h = some (y, h1, c, s) → V w mX23_init cX23_init 5 c s h 107 [some (va_rf (some x)), some (va_rf a1), some (.int a2), none, none, none, none] [] (Ro (oU y) h1)) {a2 : Int32} {h h1 : Hp} {y : Unit} {c s : Nat} (H : d_X23_init_150 w F k107 x a1 a2 h = some (y, h1, c, s)) : V w mX23_init cX23_init 5 c s h 150 [some (va_rf (some x)), some (va_rf a1), some (.int a2), none, none, none, none] [] (Ro (oU y) h1) := by
  unfold d_X23_init_150 at H
  refine V_aload1 eX23_init_150 (zrf_rf _) ?_
  refine D_gR eX23_init_151 fq_X23_43_tR H (fun v18 H => ?_)
  refine V_iload2 eX23_init_154 ?_
  refine D_callR (pc' := 158) (st := []) H (fun v h' c1 s1 e cb sb k => ?_) (fun v19 h c s H => ?_)
  · obtain ⟨a, hr, ha, hk, e9⟩ := zv1_ok e
    cases hr
    exact V_invokevirtual (k := 30) eX23_init_155 lmJ2_get q1499 q161 rfl rfl q162 ha hk (c_J2_get e9) (hRet_oR _ _) rfl rfl rfl rfl (kOR k)
  refine V_astore4 rfl eX23_init_158 rfl (zrf_rf _) ?_
  refine V_aload4 eX23_init_160 (zrf_rf _) ?_
  refine D_inst eX23_init_162 q1500 y_X21_ok n_X21_ok H (fun v20 H => ?_)
  refine V_ifeq eX23_init_165 (fun q => ?_) (fun q => ?_)
  · have H := zif_t q H
    exact V_fg2 (b_X23_init_280 hMA hk107 H) (zfg_k (zfg_k (zfg_k (zfg_n (zfg_n (zfg_n (zfg_n zfg_e)))))))
  · have H := zif_f q H
    refine V_aload4 eX23_init_168 (zrf_rf _) ?_
    refine D_cast eX23_init_170 q1500 y_X21_ok H (fun H => ?_)
    refine V_astore3 rfl eX23_init_173 rfl (zrf_rf _) ?_
    refine V_aload3 eX23_init_174 (zrf_rf _) ?_
    refine D_gI eX23_init_175 fq_X23_71_tI H (fun v21 H => ?_)
    refine V_ifeq eX23_init_178 (fun q => ?_) (fun q => ?_)
    · have H := zif_t q H
      refine V_bipush (v := 8) (by decide) eX23_init_184 ?_
      refine V_aload3 eX23_init_186 (zrf_rf _) ?_
      refine D_gR eX23_init_187 fq_X23_75_tR H (fun v22 H => ?_)
      refine D_gI eX23_init_190 fq_X23_57_tI H (fun v23 H => ?_)
      refine V_iadd eX23_init_193 ?_
      refine V_istore4 (znl_rf _) eX23_init_194 rfl ?_
      refine V_aload3 eX23_init_196 (zrf_rf _) ?_
      refine D_inst eX23_init_197 q1501 y_X22_ok n_X22_ok H (fun v24 H => ?_)
      refine V_ifeq eX23_init_200 (fun q => ?_) (fun q => ?_)
      · have H := zif_t q H
        refine V_iconst (v := 0) (by decide) eX23_init_234 ?_
        refine V_istore6 rfl eX23_init_235 rfl ?_
        exact V_fg2 (b_X23_init_237 hMA hk107 _ _ _ _ _ _ _ H) (zfg_k (zfg_k (zfg_k (zfg_k (zfg_k (zfg_n (zfg_k zfg_e)))))))
      · have H := zif_f q H
        refine V_aload3 eX23_init_203 (zrf_rf _) ?_
        refine D_cast eX23_init_204 q1501 y_X22_ok H (fun H => ?_)
        refine V_astore5 rfl eX23_init_207 rfl (zrf_rf _) ?_
        refine V_aload0 eX23_init_209 (zrf_rf _) ?_
        refine D_gR eX23_init_210 fq_X23_24_tR H (fun v25 H => ?_)
        refine V_iload4 eX23_init_213 ?_
        refine D_aaload eX23_init_215 H (fun v26 H => ?_)
        refine V_aload5 eX23_init_216 (zrf_rf _) ?_
        refine D_gI eX23_init_218 fq_X23_81_tI H (fun v27 H => ?_)
        refine V_dup2 rfl (zcr _) eX23_init_221 ?_
        refine D_laload eX23_init_222 H (fun v28 H => ?_)
        refine V_aload5 eX23_init_223 (zrf_rf _) ?_
        refine D_gI eX23_init_225 fq_X23_84_tI H (fun v29 H => ?_)
        refine V_i2l eX23_init_228 ?_
        refine V_ladd eX23_init_229 ?_
        refine D_lastore eX23_init_230 H (fun h H => ?_)
        refine V_goto eX23_init_231 ?_
        exact V_fg2 (b_X23_init_280 hMA hk107 H) (zfg_k (zfg_k (zfg_k (zfg_n (zfg_n (zfg_n (zfg_n zfg_e)))))))
    · have H := zif_f q H
      refine V_goto eX23_init_181 ?_
      exact V_fg2 (b_X23_init_280 hMA hk107 H) (zfg_k (zfg_k (zfg_k (zfg_n (zfg_n (zfg_n (zfg_n zfg_e)))))))
theorem bB_X23_init_107 {w : Wd} {F : Nat} (hMA : MAp w) {k107 : Int32 → M Unit} {x : Nat} {a1 : Option Nat} (hk107 : ∀ (a2 : Int32) (h : Hp) (y : Unit) (h1 : Hp) (c s : Nat), k107 a2 h = some (y, h1, c, s) → V w mX23_init cX23_init 5 c s h 107 [some (va_rf (some x)), some (va_rf a1), some (.int a2), none, none, none, none] [] (Ro (oU y) h1)) {a2 : Int32} {h h1 : Hp} {y : Unit} {c s : Nat} (H : B_X23_init_107 w F k107 x a1 a2 h = some (y, h1, c, s)) : V w mX23_init cX23_init 5 c s h 107 [some (va_rf (some x)), some (va_rf a1), some (.int a2), none, none, none, none] [] (Ro (oU y) h1) := by
  unfold B_X23_init_107 at H
  refine V_iload2 eX23_init_107 ?_
  refine V_aload1 eX23_init_108 (zrf_rf _) ?_
  refine D_gR eX23_init_109 fq_X23_43_tR H (fun v15 H => ?_)
  refine D_callI (pc' := 115) (st := [.int a2]) H (fun v h' c1 s1 e cb sb k => ?_) (fun v16 h c s H => ?_)
  · obtain ⟨a, hr, ha, hk, e9⟩ := zv1_ok e
    cases hr
    exact V_invokevirtual (k := 30) eX23_init_112 lmJ2_size q1497 q157 rfl rfl q158 ha hk (c_J2_size e9) (hRet_oI _ _) rfl rfl rfl rfl (kOI k)
  refine V_if_icmpge eX23_init_115 (fun q => ?_) (fun q => ?_)
  · have H := zif_t q H
    refine V_iconst (v := 0) (by decide) eX23_init_286 ?_
    refine V_istore2 (znl_rf _) eX23_init_287 rfl ?_
    exact V_fg2 (b_X23_init_288 hMA _ _ _ _ _ _ _ H) (zfg_k (zfg_n (zfg_k (zfg_n (zfg_n (zfg_n (zfg_n zfg_e)))))))
  · have H := zif_f q H
    refine V_aload1 eX23_init_118 (zrf_rf _) ?_
    refine V_iload2 eX23_init_119 ?_
    refine D_callR (pc' := 123) (st := []) H (fun v h' c1 s1 e cb sb k => ?_) (fun v17 h c s H => ?_)
    · obtain ⟨a, hr, ha, hk, e9⟩ := zv1_ok e
      cases hr
      exact V_invokevirtualN (k := 0) eX23_init_120 lmX0_schemeAt q1498 q804 rfl rfl qs21 ha hk (c_X0_schemeAt e9) (hRet_oR _ _) rfl rfl rfl rfl (kOR k)
    refine V_ifnull eX23_init_123 (fun q => ?_) (fun a q => ?_)
    · have H := zif_t q H
      exact V_fg2 (b_X23_init_150 hMA hk107 H) (zfg_k (zfg_k (zfg_k (zfg_n (zfg_n (zfg_n (zfg_n zfg_e)))))))
    · have H := zif_f (zsn q) H
      refine V_aload0 eX23_init_126 (zrf_rf _) ?_
      refine D_gR eX23_init_127 fq_X23_31_tR H (fun v18 H => ?_)
      refine V_bipush (v := 8) (by decide) eX23_init_130 ?_
      refine V_aload1 eX23_init_132 (zrf_rf _) ?_
      refine V_iload2 eX23_init_133 ?_
      refine D_callR (pc' := 137) (st := [.int (8 : Int32), va_rf v18]) H (fun v h' c1 s1 e cb sb k => ?_) (fun v19 h c s H => ?_)
      · obtain ⟨a, hr, ha, hk, e9⟩ := zv1_ok e
        cases hr
        exact V_invokevirtualN (k := 0) eX23_init_134 lmX0_schemeAt q1498 q804 rfl rfl qs21 ha hk (c_X0_schemeAt e9) (hRet_oR _ _) rfl rfl rfl (by simp only [List.map_cons, List.map_nil, zcr]; rfl) (kOR k)
      refine D_gI eX23_init_137 fq_X23_57_tI H (fun v20 H => ?_)
      refine V_iadd eX23_init_140 ?_
      refine V_aload1 eX23_init_141 (zrf_rf _) ?_
      refine V_iload2 eX23_init_142 ?_
      refine D_callR (pc' := 146) (st := [.int ((8 : Int32) + v20), va_rf v18]) H (fun v h' c1 s1 e cb sb k => ?_) (fun v21 h c s H => ?_)
      · obtain ⟨a, hr, ha, hk, e9⟩ := zv1_ok e
        cases hr
        exact V_invokevirtualN (k := 0) eX23_init_143 lmX0_schemeAt q1498 q804 rfl rfl qs21 ha hk (c_X0_schemeAt e9) (hRet_oR _ _) rfl rfl rfl (by simp only [List.map_cons, List.map_nil, zcr]; rfl) (kOR k)
      refine D_gL eX23_init_146 fq_X23_62_tL H (fun v22 H => ?_)
      refine D_lastore eX23_init_149 H (fun h H => ?_)
      exact V_fg2 (b_X23_init_150 hMA hk107 H) (zfg_k (zfg_k (zfg_k (zfg_n (zfg_n (zfg_n (zfg_n zfg_e)))))))
theorem b_X23_init_107 {w : Wd} {F : Nat} (hMA : MAp w) {x : Nat} {a1 : Option Nat} : ∀ (n : Nat) (a2 : Int32) (h : Hp) (y : Unit) (h1 : Hp) (c s : Nat), d_X23_init_107 w F x a1 n a2 h = some (y, h1, c, s) → V w mX23_init cX23_init 5 c s h 107 [some (va_rf (some x)), some (va_rf a1), some (.int a2), none, none, none, none] [] (Ro (oU y) h1) := by
  intro n
  induction n with
  | zero => intro a2 h y h1 c s H; exact zno_no H
  | succ n ih => intro a2 h y h1 c s H; exact bB_X23_init_107 hMA ih H
theorem bB_X23_init_81 {w : Wd} {F : Nat} (hMA : MAp w) {k81 : Int32 → M Unit} {x : Nat} {a1 : Option Nat} (hk81 : ∀ (a2 : Int32) (h : Hp) (y : Unit) (h1 : Hp) (c s : Nat), k81 a2 h = some (y, h1, c, s) → V w mX23_init cX23_init 5 c s h 81 [some (va_rf (some x)), some (va_rf a1), some (.int a2), none, none, none, none] [] (Ro (oU y) h1)) {a2 : Int32} {h h1 : Hp} {y : Unit} {c s : Nat} (H : B_X23_init_81 w F k81 x a1 a2 h = some (y, h1, c, s)) : V w mX23_init cX23_init 5 c s h 81 [some (va_rf (some x)), some (va_rf a1), some (.int a2), none, none, none, none] [] (Ro (oU y) h1) := by
  unfold B_X23_init_81 at H
  refine V_iload2 eX23_init_81 ?_
  refine V_bipush (v := 8) (by decide) eX23_init_82 ?_
  refine V_if_icmpge eX23_init_84 (fun q => ?_) (fun q => ?_)
  · have H := zif_t q H
    refine V_iconst (v := 0) (by decide) eX23_init_105 ?_
    refine V_istore2 (znl_rf _) eX23_init_106 rfl ?_
    exact V_fg2 (b_X23_init_107 hMA _ _ _ _ _ _ _ H) (zfg_k (zfg_k (zfg_k (zfg_n (zfg_n (zfg_n (zfg_n zfg_e)))))))
  · have H := zif_f q H
    refine V_aload0 eX23_init_87 (zrf_rf _) ?_
    refine D_gR eX23_init_88 fq_X23_31_tR H (fun v15 H => ?_)
    refine V_iload2 eX23_init_91 ?_
    refine V_aload1 eX23_init_92 (zrf_rf _) ?_
    refine D_gR eX23_init_93 fq_X23_40_tR H (fun v16 H => ?_)
    refine V_iload2 eX23_init_96 ?_
    refine D_laload eX23_init_97 H (fun v17 H => ?_)
    refine D_lastore eX23_init_98 H (fun h H => ?_)
    refine V_iinc2 (znl_rf _) eX23_init_99 rfl (v := 1) (by decide) ?_
    refine V_goto eX23_init_102 ?_
    exact V_fg2 (hk81 _ _ _ _ _ _ H) (zfg_k (zfg_k (zfg_k (zfg_n (zfg_n (zfg_n (zfg_n zfg_e)))))))
theorem b_X23_init_81 {w : Wd} {F : Nat} (hMA : MAp w) {x : Nat} {a1 : Option Nat} : ∀ (n : Nat) (a2 : Int32) (h : Hp) (y : Unit) (h1 : Hp) (c s : Nat), d_X23_init_81 w F x a1 n a2 h = some (y, h1, c, s) → V w mX23_init cX23_init 5 c s h 81 [some (va_rf (some x)), some (va_rf a1), some (.int a2), none, none, none, none] [] (Ro (oU y) h1) := by
  intro n
  induction n with
  | zero => intro a2 h y h1 c s H; exact zno_no H
  | succ n ih => intro a2 h y h1 c s H; exact bB_X23_init_81 hMA ih H
theorem c_X23_init {w : Wd} {F : Nat} (hMA : MAp w) {x : Nat} {a1 : Option Nat} {h h1 : Hp} {y : Unit} {c s : Nat} (H : o_X23_init w F x a1 h = some (y, h1, c, s)) : Con w mX23_init cX23_init 5 c s [.ref x, va_rf a1] h (Ro (oU y) h1) := by
  unfold o_X23_init at H
  refine Con.of (ls := [some (va_rf (some x)), some (va_rf a1), none, none, none, none, none]) (by decide +kernel) (by simp only [zsl_r, zsl_i, zsl_l, zsl_n, zsl_a]; rfl) (by simp only [zar_r, zar_i, zar_l, zar_n, zar_a]; rfl) ?_
  refine V_aload0 eX23_init_0 (zrf_rf _) ?_
  refine V_aload1 eX23_init_1 (zrf_rf _) ?_
  refine D_pR eX23_init_2 fq_X23_3_tR fn_X23_init_3 H (fun h H => ?_)
  refine V_aload0 eX23_init_5 (zrf_rf _) ?_
  refine V_objectinit eX23_init_6 q1494 q180 q181 rfl rfl ?_
  refine V_aload0 eX23_init_9 (zrf_rf _) ?_
  refine V_bipush (v := 8) (by decide) eX23_init_10 ?_
  refine V_aload0 eX23_init_12 (zrf_rf _) ?_
  refine D_gR eX23_init_13 fq_X23_3_tR H (fun v2 H => ?_)
  refine D_gI eX23_init_16 fq_X23_15_tI H (fun v3 H => ?_)
  refine V_iadd eX23_init_19 ?_
  refine D_pI eX23_init_20 fq_X23_19_tN fn_X23_init_19 H (fun h H => ?_)
  refine V_aload0 eX23_init_23 (zrf_rf _) ?_
  refine V_aload0 eX23_init_24 (zrf_rf _) ?_
  refine D_gI eX23_init_25 fq_X23_19_tI H (fun v4 H => ?_)
  refine V_aload0 eX23_init_28 (zrf_rf _) ?_
  refine D_gI eX23_init_29 fq_X23_19_tI H (fun v5 H => ?_)
  refine D_ma hMA eX23_init_32 q1495 H (fun n6 h c s H => ?_)
  refine D_pR eX23_init_36 fq_X23_24_tR fn_X23_init_24 H (fun h H => ?_)
  refine V_aload0 eX23_init_39 (zrf_rf _) ?_
  refine V_aload0 eX23_init_40 (zrf_rf _) ?_
  refine D_gI eX23_init_41 fq_X23_19_tI H (fun v7 H => ?_)
  refine D_newarray (g := (zgo (some x) 6)) (κ := 150) (cT := 1) eX23_init_44 rfl rfl rfl q586 rfl (by decide) H (fun n8 h c s H => ?_)
  refine D_pR eX23_init_46 fq_X23_27_tR fn_X23_init_27 H (fun h H => ?_)
  refine V_aload0 eX23_init_49 (zrf_rf _) ?_
  refine V_aload0 eX23_init_50 (zrf_rf _) ?_
  refine D_gI eX23_init_51 fq_X23_19_tI H (fun v9 H => ?_)
  refine D_newarray (g := (zgo (some x) 7)) (κ := 150) (cT := 1) eX23_init_54 rfl rfl rfl q586 rfl (by decide) H (fun n10 h c s H => ?_)
  refine D_pR eX23_init_56 fq_X23_31_tR fn_X23_init_31 H (fun h H => ?_)
  refine V_aload0 eX23_init_59 (zrf_rf _) ?_
  refine V_aload0 eX23_init_60 (zrf_rf _) ?_
  refine D_gI eX23_init_61 fq_X23_19_tI H (fun v11 H => ?_)
  refine D_newarray (g := (zgo (some x) 8)) (κ := 150) (cT := 1) eX23_init_64 rfl rfl rfl q586 rfl (by decide) H (fun n12 h c s H => ?_)
  refine D_pR eX23_init_66 fq_X23_34_tR fn_X23_init_34 H (fun h H => ?_)
  refine V_aload0 eX23_init_69 (zrf_rf _) ?_
  refine V_aload0 eX23_init_70 (zrf_rf _) ?_
  refine D_gI eX23_init_71 fq_X23_19_tI H (fun v13 H => ?_)
  refine D_newarray (g := (zgo (some x) 9)) (κ := 150) (cT := 1) eX23_init_74 rfl rfl rfl q586 rfl (by decide) H (fun n14 h c s H => ?_)
  refine D_pR eX23_init_76 fq_X23_37_tR fn_X23_init_37 H (fun h H => ?_)
  refine V_iconst (v := 0) (by decide) eX23_init_79 ?_
  refine V_istore2 (znl_rf _) eX23_init_80 rfl ?_
  exact V_fg2 (b_X23_init_81 hMA _ _ _ _ _ _ _ H) (zfg_k (zfg_k (zfg_k (zfg_n (zfg_n (zfg_n (zfg_n zfg_e)))))))
