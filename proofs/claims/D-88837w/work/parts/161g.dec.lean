set_option maxRecDepth 100000
def d_X0_hear_38 (w : Wd) (F : Nat) (s0 : Int32) : M Int32 :=
  zrt s0
def o_X0_hear (w : Wd) (F : Nat) (x : Nat) (a1 : Int32) (a2 : Int32) : M Int32 :=
  zbd (zv1 0 (some x) (fun a => o_X0_billAt w F a a1)) fun v1 =>
  zif (v1 = none) (zrt (-1 : Int32))
  (zbd (o_X0_isDay w F a2) fun v2 =>
  zif (v2 = 0) (d_X0_hear_38 w F (-2 : Int32))
  (zbd (zv1 0 (some x) (fun a => o_X0_canLet w F a v1 a2)) fun v3 =>
  zif (v3 = 0) (d_X0_hear_38 w F (0 : Int32))
  (d_X0_hear_38 w F (1 : Int32))))
theorem b_X0_hear_38 {w : Wd} {F : Nat} {s0 : Int32} {h h1 : Hp} {y : Int32} {c s : Nat} (H : d_X0_hear_38 w F s0 h = some (y, h1, c, s)) : V w mX0_hear cX0_hear 802 c s h 38 [none, none, none, none] [.int s0] (Ro (oI y) h1) := by
  unfold d_X0_hear_38 at H
  obtain ⟨rfl, rfl, rfl, rfl⟩ := zrt_ok H
  exact V_ireturn eX0_hear_38 rfl ⟨rfl, rfl⟩
theorem c_X0_hear {w : Wd} {F : Nat} {x : Nat} {a1 : Int32} {a2 : Int32} {h h1 : Hp} {y : Int32} {c s : Nat} (H : o_X0_hear w F x a1 a2 h = some (y, h1, c, s)) : Con w mX0_hear cX0_hear 802 c s [.ref x, .int a1, .int a2] h (Ro (oI y) h1) := by
  unfold o_X0_hear at H
  refine Con.of (ls := [some (va_rf (some x)), some (.int a1), some (.int a2), none]) (by decide +kernel) rfl rfl ?_
  refine V_aload0 eX0_hear_0 (zrf_rf _) ?_
  refine V_iload1 eX0_hear_1 ?_
  refine D_callR (pc' := 5) (st := []) H (fun v h' c1 s1 e cb sb k => ?_) (fun v1 h c s H => ?_)
  · obtain ⟨a, hr, ha, hk, e9⟩ := zv1_ok e
    cases hr
    exact V_invokevirtual (k := 0) eX0_hear_2 lmX0_billAt q1060 q1062 rfl rfl qs33 ha hk (c_X0_billAt e9) (hRet_oR _ _) rfl rfl rfl rfl (kOR k)
  refine V_astore3 rfl eX0_hear_5 rfl (zrf_rf _) ?_
  refine V_aload3 eX0_hear_6 (zrf_rf _) ?_
  refine V_ifnonnull eX0_hear_7 (fun a q => ?_) (fun q => ?_)
  · have H := zif_f (zsn q) H
    refine V_iload2 eX0_hear_12 ?_
    refine D_callI (pc' := 16) (st := []) H (fun v h' c1 s1 e cb sb k => ?_) (fun v2 h c s H => ?_)
    · exact V_invokestatic eX0_hear_13 lmX0_isDay q293 q294 (c_X0_isDay e) (hRet_oI _ _) rfl rfl rfl rfl (kOI k)
    refine V_ifeq eX0_hear_16 (fun q => ?_) (fun q => ?_)
    · have H := zif_t q H
      refine V_bipush (v := -2) (by decide) eX0_hear_36 ?_
      exact V_fg2 (b_X0_hear_38 H) (zfg_n (zfg_n (zfg_n (zfg_n zfg_e))))
    · have H := zif_f q H
      refine V_aload0 eX0_hear_19 (zrf_rf _) ?_
      refine V_aload3 eX0_hear_20 (zrf_rf _) ?_
      refine V_iload2 eX0_hear_21 ?_
      refine D_callI (pc' := 25) (st := []) H (fun v h' c1 s1 e cb sb k => ?_) (fun v3 h c s H => ?_)
      · obtain ⟨a, hr, ha, hk, e9⟩ := zv1_ok e
        cases hr
        exact V_invokevirtual (k := 0) eX0_hear_22 lmX0_canLet q1064 q1066 rfl rfl qs34 ha hk (c_X0_canLet e9) (hRet_oI _ _) rfl rfl rfl rfl (kOI k)
      refine V_ifeq eX0_hear_25 (fun q => ?_) (fun q => ?_)
      · have H := zif_t q H
        refine V_iconst (v := 0) (by decide) eX0_hear_32 ?_
        refine V_goto eX0_hear_33 ?_
        exact V_fg2 (b_X0_hear_38 H) (zfg_n (zfg_n (zfg_n (zfg_n zfg_e))))
      · have H := zif_f q H
        refine V_iconst (v := 1) (by decide) eX0_hear_28 ?_
        refine V_goto eX0_hear_29 ?_
        exact V_fg2 (b_X0_hear_38 H) (zfg_n (zfg_n (zfg_n (zfg_n zfg_e))))
  · have H := zif_t q H
    refine V_iconst (v := -1) (by decide) eX0_hear_10 ?_
    obtain ⟨rfl, rfl, rfl, rfl⟩ := zrt_ok H
    exact V_ireturn eX0_hear_11 rfl ⟨rfl, rfl⟩
def f_X18_barred : Nat → Option Nat := fun k => match k with
  | 18 => some 17
  | _ => none
theorem fq_X0_340_tL : FQ RX0 340 f_X18_barred tL := by
  intro k j e
  unfold f_X18_barred at e
  split at e
  · cases e; exact ⟨fl_X0_340_18, rfl⟩
  · cases e
theorem fn_X0_bar_340 : FN mX0_bar 340 f_X18_barred := by
  intro k j e
  unfold f_X18_barred at e
  split at e
  · cases e; exact Or.inl rfl
  · cases e
def d_X0_bar_22 (w : Wd) (F : Nat) : M Int32 :=
  zrt (-1 : Int32)
def d_X0_bar_51 (w : Wd) (F : Nat) (a1 : Int32) (a2 : Int32) (a3 : Option Nat) (a4 : Option Nat) (s0 : Int32) : M Int32 :=
  zbd (zgL f_X18_barred a3) fun v4 =>
  zbd (zpL f_X18_barred a3 (v4 ||| ((1 : Int64) <<< ((a2).toInt64 &&& 63)))) fun _ =>
  zbd (zgL f_X18_barred a4) fun v5 =>
  zbd (zpL f_X18_barred a4 (v5 ||| ((1 : Int64) <<< ((a1).toInt64 &&& 63)))) fun _ =>
  zrt s0
def o_X0_bar (w : Wd) (F : Nat) (x : Nat) (a1 : Int32) (a2 : Int32) : M Int32 :=
  zbd (zv1 0 (some x) (fun a => o_X0_billAt w F a a1)) fun v1 =>
  zbd (zv1 0 (some x) (fun a => o_X0_billAt w F a a2)) fun v2 =>
  zif (v1 = none) (d_X0_bar_22 w F)
  (zif (v2 = none) (d_X0_bar_22 w F)
  (zif (v1 = v2) (zrt (-2 : Int32))
  (zbd (zgL f_X18_barred v1) fun v3 =>
  zif ((lg_cmp ((v3 >>> ((a2).toInt64 &&& 63)) &&& (1 : Int64)) (1 : Int64)) = 0) (d_X0_bar_51 w F a1 a2 v1 v2 (0 : Int32))
  (d_X0_bar_51 w F a1 a2 v1 v2 (1 : Int32)))))
theorem b_X0_bar_22 {w : Wd} {F : Nat} {h h1 : Hp} {y : Int32} {c s : Nat} (H : d_X0_bar_22 w F h = some (y, h1, c, s)) : V w mX0_bar cX0_bar 5 c s h 22 [none, none, none, none, none, none] [] (Ro (oI y) h1) := by
  unfold d_X0_bar_22 at H
  refine V_iconst (v := -1) (by decide) eX0_bar_22 ?_
  obtain ⟨rfl, rfl, rfl, rfl⟩ := zrt_ok H
  exact V_ireturn eX0_bar_23 rfl ⟨rfl, rfl⟩
theorem b_X0_bar_51 {w : Wd} {F : Nat} {a1 : Int32} {a2 : Int32} {a3 : Option Nat} {a4 : Option Nat} {s0 : Int32} {h h1 : Hp} {y : Int32} {c s : Nat} (H : d_X0_bar_51 w F a1 a2 a3 a4 s0 h = some (y, h1, c, s)) : V w mX0_bar cX0_bar 5 c s h 51 [none, some (.int a1), some (.int a2), some (va_rf a3), some (va_rf a4), none] [.int s0] (Ro (oI y) h1) := by
  unfold d_X0_bar_51 at H
  refine V_istore5 (znl_rf _) eX0_bar_51 rfl ?_
  refine V_aload3 eX0_bar_53 (zrf_rf _) ?_
  refine V_dup (zcr _) eX0_bar_54 ?_
  refine D_gL eX0_bar_55 fq_X0_340_tL H (fun v4 H => ?_)
  refine V_lconst (v := 1) (by decide) eX0_bar_58 ?_
  refine V_iload2 eX0_bar_59 ?_
  refine V_lshl eX0_bar_60 ?_
  refine V_lor eX0_bar_61 ?_
  refine D_pL eX0_bar_62 fq_X0_340_tL fn_X0_bar_340 H (fun h H => ?_)
  refine V_aload4 eX0_bar_65 (zrf_rf _) ?_
  refine V_dup (zcr _) eX0_bar_67 ?_
  refine D_gL eX0_bar_68 fq_X0_340_tL H (fun v5 H => ?_)
  refine V_lconst (v := 1) (by decide) eX0_bar_71 ?_
  refine V_iload1 eX0_bar_72 ?_
  refine V_lshl eX0_bar_73 ?_
  refine V_lor eX0_bar_74 ?_
  refine D_pL eX0_bar_75 fq_X0_340_tL fn_X0_bar_340 H (fun h H => ?_)
  refine V_iload5 eX0_bar_78 ?_
  obtain ⟨rfl, rfl, rfl, rfl⟩ := zrt_ok H
  exact V_ireturn eX0_bar_80 rfl ⟨rfl, rfl⟩
theorem c_X0_bar {w : Wd} {F : Nat} {x : Nat} {a1 : Int32} {a2 : Int32} {h h1 : Hp} {y : Int32} {c s : Nat} (H : o_X0_bar w F x a1 a2 h = some (y, h1, c, s)) : Con w mX0_bar cX0_bar 5 c s [.ref x, .int a1, .int a2] h (Ro (oI y) h1) := by
  unfold o_X0_bar at H
  refine Con.of (ls := [some (va_rf (some x)), some (.int a1), some (.int a2), none, none, none]) (by decide +kernel) rfl rfl ?_
  refine V_aload0 eX0_bar_0 (zrf_rf _) ?_
  refine V_iload1 eX0_bar_1 ?_
  refine D_callR (pc' := 5) (st := []) H (fun v h' c1 s1 e cb sb k => ?_) (fun v1 h c s H => ?_)
  · obtain ⟨a, hr, ha, hk, e9⟩ := zv1_ok e
    cases hr
    exact V_invokevirtual (k := 0) eX0_bar_2 lmX0_billAt q1060 q1062 rfl rfl qs33 ha hk (c_X0_billAt e9) (hRet_oR _ _) rfl rfl rfl rfl (kOR k)
  refine V_astore3 rfl eX0_bar_5 rfl (zrf_rf _) ?_
  refine V_aload0 eX0_bar_6 (zrf_rf _) ?_
  refine V_iload2 eX0_bar_7 ?_
  refine D_callR (pc' := 11) (st := []) H (fun v h' c1 s1 e cb sb k => ?_) (fun v2 h c s H => ?_)
  · obtain ⟨a, hr, ha, hk, e9⟩ := zv1_ok e
    cases hr
    exact V_invokevirtual (k := 0) eX0_bar_8 lmX0_billAt q1060 q1062 rfl rfl qs33 ha hk (c_X0_billAt e9) (hRet_oR _ _) rfl rfl rfl rfl (kOR k)
  refine V_astore4 (znl_rf _) eX0_bar_11 rfl (zrf_rf _) ?_
  refine V_aload3 eX0_bar_13 (zrf_rf _) ?_
  refine V_ifnull eX0_bar_14 (fun q => ?_) (fun a q => ?_)
  · have H := zif_t q H
    exact V_fg2 (b_X0_bar_22 H) (zfg_n (zfg_n (zfg_n (zfg_n (zfg_n (zfg_n zfg_e))))))
  · have H := zif_f (zsn q) H
    refine V_aload4 eX0_bar_17 (zrf_rf _) ?_
    refine V_ifnonnull eX0_bar_19 (fun a q => ?_) (fun q => ?_)
    · have H := zif_f (zsn q) H
      refine V_aload3 eX0_bar_24 (zrf_rf _) ?_
      refine V_aload4 eX0_bar_25 (zrf_rf _) ?_
      refine V_if_acmpne eX0_bar_27 (fun q => ?_) (fun q => ?_)
      · have H := zif_f q H
        refine V_aload3 eX0_bar_33 (zrf_rf _) ?_
        refine D_gL eX0_bar_34 fq_X0_340_tL H (fun v3 H => ?_)
        refine V_iload2 eX0_bar_37 ?_
        refine V_lshr eX0_bar_38 ?_
        refine V_lconst (v := 1) (by decide) eX0_bar_39 ?_
        refine V_land eX0_bar_40 ?_
        refine V_lconst (v := 1) (by decide) eX0_bar_41 ?_
        refine V_lcmp eX0_bar_42 ?_
        refine V_ifne eX0_bar_43 (fun q => ?_) (fun q => ?_)
        · have H := zif_f q H
          refine V_iconst (v := 1) (by decide) eX0_bar_50 ?_
          exact V_fg2 (b_X0_bar_51 H) (zfg_n (zfg_k (zfg_k (zfg_k (zfg_k (zfg_n zfg_e))))))
        · have H := zif_t q H
          refine V_iconst (v := 0) (by decide) eX0_bar_46 ?_
          refine V_goto eX0_bar_47 ?_
          exact V_fg2 (b_X0_bar_51 H) (zfg_n (zfg_k (zfg_k (zfg_k (zfg_k (zfg_n zfg_e))))))
      · have H := zif_t q H
        refine V_bipush (v := -2) (by decide) eX0_bar_30 ?_
        obtain ⟨rfl, rfl, rfl, rfl⟩ := zrt_ok H
        exact V_ireturn eX0_bar_32 rfl ⟨rfl, rfl⟩
    · have H := zif_t q H
      exact V_fg2 (b_X0_bar_22 H) (zfg_n (zfg_n (zfg_n (zfg_n (zfg_n (zfg_n zfg_e))))))
def f_X18_granted : Nat → Option Nat := fun k => match k with
  | 18 => some 14
  | _ => none
theorem fq_X0_344_tI : FQ RX0 344 f_X18_granted tI := by
  intro k j e
  unfold f_X18_granted at e
  split at e
  · cases e; exact ⟨fl_X0_344_18, Or.inr (Or.inl rfl)⟩
  · cases e
def d_X0_grantedMany_52 (w : Wd) (F : Nat) (k4 : Int32 → Int32 → M Int32) (x : Nat) (a3 : Int32) (s0 : Int32) (s1 : Int32) : M Int32 :=
  k4 (s0 + s1) (a3 + (1 : Int32))
def d_X0_grantedMany_51 (w : Wd) (F : Nat) (k4 : Int32 → Int32 → M Int32) (x : Nat) (a3 : Int32) (s0 : Int32) : M Int32 :=
  d_X0_grantedMany_52 w F k4 x a3 s0 (0 : Int32)
def B_X0_grantedMany_4 (w : Wd) (F : Nat) (k4 : Int32 → Int32 → M Int32) (x : Nat) (a1 : Int32) (a3 : Int32) : M Int32 :=
  zbd (zgR f_X0_papers (some x)) fun v1 =>
  zbd (zv1 30 v1 (fun a => o_J2_size w F a)) fun v2 =>
  zif (v2 ≤ a3) (zrt a1)
  (zbd (zgR f_X0_papers (some x)) fun v3 =>
  zbd (zv1 30 v3 (fun a => o_J2_get w F a a3)) fun v4 =>
  zbd (zio y_X18 n_X18 v4) fun v5 =>
  zif (v5 = 0) (d_X0_grantedMany_51 w F k4 x a3 a1)
  (zbd (zcc y_X18 v4) fun _ =>
  zbd (zgI f_X18_granted v4) fun v6 =>
  zif (v6 = 0) (d_X0_grantedMany_51 w F k4 x a3 a1)
  (d_X0_grantedMany_52 w F k4 x a3 a1 (1 : Int32))))
def d_X0_grantedMany_4 (w : Wd) (F : Nat) (x : Nat) : Nat → Int32 → Int32 → M Int32
  | 0, _, _ => zno
  | n + 1, a1, a3 => B_X0_grantedMany_4 w F (d_X0_grantedMany_4 w F x n) x a1 a3
def o_X0_grantedMany (w : Wd) (F : Nat) (x : Nat) : M Int32 :=
  d_X0_grantedMany_4 w F x F (0 : Int32) (0 : Int32)
theorem b_X0_grantedMany_52 {w : Wd} {F : Nat} {k4 : Int32 → Int32 → M Int32} {x : Nat} (hk4 : ∀ (a1 : Int32) (a3 : Int32) (h : Hp) (y : Int32) (h1 : Hp) (c s : Nat), k4 a1 a3 h = some (y, h1, c, s) → V w mX0_grantedMany cX0_grantedMany 3 c s h 4 [some (va_rf (some x)), some (.int a1), none, some (.int a3), none] [] (Ro (oI y) h1)) {a3 : Int32} {s0 : Int32} {s1 : Int32} {h h1 : Hp} {y : Int32} {c s : Nat} (H : d_X0_grantedMany_52 w F k4 x a3 s0 s1 h = some (y, h1, c, s)) : V w mX0_grantedMany cX0_grantedMany 3 c s h 52 [some (va_rf (some x)), none, none, some (.int a3), none] [.int s1, .int s0] (Ro (oI y) h1) := by
  unfold d_X0_grantedMany_52 at H
  refine V_iadd eX0_grantedMany_52 ?_
  refine V_istore1 (znl_rf _) eX0_grantedMany_53 rfl ?_
  refine V_iinc3 rfl eX0_grantedMany_54 rfl (v := 1) (by decide) ?_
  refine V_goto eX0_grantedMany_57 ?_
  exact V_fg2 (hk4 _ _ _ _ _ _ _ H) (zfg_k (zfg_k (zfg_n (zfg_k (zfg_n zfg_e)))))
theorem b_X0_grantedMany_51 {w : Wd} {F : Nat} {k4 : Int32 → Int32 → M Int32} {x : Nat} (hk4 : ∀ (a1 : Int32) (a3 : Int32) (h : Hp) (y : Int32) (h1 : Hp) (c s : Nat), k4 a1 a3 h = some (y, h1, c, s) → V w mX0_grantedMany cX0_grantedMany 3 c s h 4 [some (va_rf (some x)), some (.int a1), none, some (.int a3), none] [] (Ro (oI y) h1)) {a3 : Int32} {s0 : Int32} {h h1 : Hp} {y : Int32} {c s : Nat} (H : d_X0_grantedMany_51 w F k4 x a3 s0 h = some (y, h1, c, s)) : V w mX0_grantedMany cX0_grantedMany 3 c s h 51 [some (va_rf (some x)), none, none, some (.int a3), none] [.int s0] (Ro (oI y) h1) := by
  unfold d_X0_grantedMany_51 at H
  refine V_iconst (v := 0) (by decide) eX0_grantedMany_51 ?_
  exact V_fg2 (b_X0_grantedMany_52 hk4 H) (zfg_k (zfg_n (zfg_n (zfg_k (zfg_n zfg_e)))))
theorem bB_X0_grantedMany_4 {w : Wd} {F : Nat} {k4 : Int32 → Int32 → M Int32} {x : Nat} (hk4 : ∀ (a1 : Int32) (a3 : Int32) (h : Hp) (y : Int32) (h1 : Hp) (c s : Nat), k4 a1 a3 h = some (y, h1, c, s) → V w mX0_grantedMany cX0_grantedMany 3 c s h 4 [some (va_rf (some x)), some (.int a1), none, some (.int a3), none] [] (Ro (oI y) h1)) {a1 : Int32} {a3 : Int32} {h h1 : Hp} {y : Int32} {c s : Nat} (H : B_X0_grantedMany_4 w F k4 x a1 a3 h = some (y, h1, c, s)) : V w mX0_grantedMany cX0_grantedMany 3 c s h 4 [some (va_rf (some x)), some (.int a1), none, some (.int a3), none] [] (Ro (oI y) h1) := by
  unfold B_X0_grantedMany_4 at H
  refine V_iload3 eX0_grantedMany_4 ?_
  refine V_aload0 eX0_grantedMany_5 (zrf_rf _) ?_
  refine D_gR eX0_grantedMany_6 fq_X0_121_tR H (fun v1 H => ?_)
  refine D_callI (pc' := 12) (st := [.int a3]) H (fun v h' c1 s1 e cb sb k => ?_) (fun v2 h c s H => ?_)
  · obtain ⟨a, hr, ha, hk, e9⟩ := zv1_ok e
    cases hr
    exact V_invokevirtual (k := 30) eX0_grantedMany_9 lmJ2_size q156 q157 rfl rfl q158 ha hk (c_J2_size e9) (hRet_oI _ _) rfl rfl rfl rfl (kOI k)
  refine V_if_icmpge eX0_grantedMany_12 (fun q => ?_) (fun q => ?_)
  · have H := zif_t q H
    refine V_iload1 eX0_grantedMany_60 ?_
    obtain ⟨rfl, rfl, rfl, rfl⟩ := zrt_ok H
    exact V_ireturn eX0_grantedMany_61 rfl ⟨rfl, rfl⟩
  · have H := zif_f q H
    refine V_iload1 eX0_grantedMany_15 ?_
    refine V_aload0 eX0_grantedMany_16 (zrf_rf _) ?_
    refine D_gR eX0_grantedMany_17 fq_X0_121_tR H (fun v3 H => ?_)
    refine V_iload3 eX0_grantedMany_20 ?_
    refine D_callR (pc' := 24) (st := [.int a1]) H (fun v h' c1 s1 e cb sb k => ?_) (fun v4 h c s H => ?_)
    · obtain ⟨a, hr, ha, hk, e9⟩ := zv1_ok e
      cases hr
      exact V_invokevirtual (k := 30) eX0_grantedMany_21 lmJ2_get q160 q161 rfl rfl q162 ha hk (c_J2_get e9) (hRet_oR _ _) rfl rfl rfl rfl (kOR k)
    refine V_astore4 rfl eX0_grantedMany_24 rfl (zrf_rf _) ?_
    refine V_aload4 eX0_grantedMany_26 (zrf_rf _) ?_
    refine D_inst eX0_grantedMany_28 q1014 y_X18_ok n_X18_ok H (fun v5 H => ?_)
    refine V_ifeq eX0_grantedMany_31 (fun q => ?_) (fun q => ?_)
    · have H := zif_t q H
      exact V_fg2 (b_X0_grantedMany_51 hk4 H) (zfg_k (zfg_n (zfg_n (zfg_k (zfg_n zfg_e)))))
    · have H := zif_f q H
      refine V_aload4 eX0_grantedMany_34 (zrf_rf _) ?_
      refine D_cast eX0_grantedMany_36 q1014 y_X18_ok H (fun H => ?_)
      refine V_astore2 rfl eX0_grantedMany_39 rfl (zrf_rf _) ?_
      refine V_aload2 eX0_grantedMany_40 (zrf_rf _) ?_
      refine D_gI eX0_grantedMany_41 fq_X0_344_tI H (fun v6 H => ?_)
      refine V_ifeq eX0_grantedMany_44 (fun q => ?_) (fun q => ?_)
      · have H := zif_t q H
        exact V_fg2 (b_X0_grantedMany_51 hk4 H) (zfg_k (zfg_n (zfg_n (zfg_k (zfg_n zfg_e)))))
      · have H := zif_f q H
        refine V_iconst (v := 1) (by decide) eX0_grantedMany_47 ?_
        refine V_goto eX0_grantedMany_48 ?_
        exact V_fg2 (b_X0_grantedMany_52 hk4 H) (zfg_k (zfg_n (zfg_n (zfg_k (zfg_n zfg_e)))))
theorem b_X0_grantedMany_4 {w : Wd} {F : Nat} {x : Nat} : ∀ (n : Nat) (a1 : Int32) (a3 : Int32) (h : Hp) (y : Int32) (h1 : Hp) (c s : Nat), d_X0_grantedMany_4 w F x n a1 a3 h = some (y, h1, c, s) → V w mX0_grantedMany cX0_grantedMany 3 c s h 4 [some (va_rf (some x)), some (.int a1), none, some (.int a3), none] [] (Ro (oI y) h1) := by
  intro n
  induction n with
  | zero => intro a1 a3 h y h1 c s H; exact zno_no H
  | succ n ih => intro a1 a3 h y h1 c s H; exact bB_X0_grantedMany_4 ih H
theorem c_X0_grantedMany {w : Wd} {F : Nat} {x : Nat} {h h1 : Hp} {y : Int32} {c s : Nat} (H : o_X0_grantedMany w F x h = some (y, h1, c, s)) : Con w mX0_grantedMany cX0_grantedMany 3 c s [.ref x] h (Ro (oI y) h1) := by
  unfold o_X0_grantedMany at H
  refine Con.of (ls := [some (va_rf (some x)), none, none, none, none]) (by decide +kernel) rfl rfl ?_
  refine V_iconst (v := 0) (by decide) eX0_grantedMany_0 ?_
  refine V_istore1 (znl_rf _) eX0_grantedMany_1 rfl ?_
  refine V_iconst (v := 0) (by decide) eX0_grantedMany_2 ?_
  refine V_istore3 rfl eX0_grantedMany_3 rfl ?_
  exact V_fg2 (b_X0_grantedMany_4 _ _ _ _ _ _ _ _ H) (zfg_k (zfg_k (zfg_n (zfg_k (zfg_n zfg_e)))))
theorem fq_X0_344_tZ : FQ RX0 344 f_X18_granted tZ := by
  intro k j e
  unfold f_X18_granted at e
  split at e
  · cases e; exact ⟨fl_X0_344_18, rfl⟩
  · cases e
theorem fn_X0_grant_344 : FN mX0_grant 344 f_X18_granted := by
  intro k j e
  unfold f_X18_granted at e
  split at e
  · cases e; exact Or.inl rfl
  · cases e
def f_X18_left : Nat → Option Nat := fun k => match k with
  | 18 => some 15
  | _ => none
theorem fq_X0_348_tN : FQ RX0 348 f_X18_left tN := by
  intro k j e
  unfold f_X18_left at e
  split at e
  · cases e; exact ⟨fl_X0_348_18, rfl⟩
  · cases e
theorem fn_X0_grant_348 : FN mX0_grant 348 f_X18_left := by
  intro k j e
  unfold f_X18_left at e
  split at e
  · cases e; exact Or.inl rfl
  · cases e
def d_X0_grant_106 (w : Wd) (F : Nat) (k40 : Int32 → Int32 → M Int32) (x : Nat) (a2 : Option Nat) (a5 : Int32) (s0 : Int32) (s1 : Int32) : M Int32 :=
  k40 (s0 &&& s1) (a5 + (1 : Int32))
def d_X0_grant_101 (w : Wd) (F : Nat) (k40 : Int32 → Int32 → M Int32) (x : Nat) (a2 : Option Nat) (a5 : Int32) (s0 : Int32) : M Int32 :=
  d_X0_grant_106 w F k40 x a2 a5 s0 (1 : Int32)
def B_X0_grant_40 (w : Wd) (F : Nat) (k40 : Int32 → Int32 → M Int32) (x : Nat) (a2 : Option Nat) (a3 : Int32) (a5 : Int32) : M Int32 :=
  zbd (zgR f_X0_papers (some x)) fun v3 =>
  zbd (zv1 30 v3 (fun a => o_J2_size w F a)) fun v4 =>
  zif (v4 ≤ a5) (zif (a3 = 0) (zrt (-3 : Int32))
  (zbd (zpZ f_X18_granted a2 (1 : Int32)) fun _ =>
  zbd (zgR f_X18_plan a2) fun v5 =>
  zbd (zv1 0 (some x) (fun a => o_X0_yardsOf w F a v5)) fun v6 =>
  zbd (zpI f_X18_left a2 v6) fun _ =>
  zbd (zv1 0 (some x) (fun a => o_X0_grantedMany w F a)) fun v7 =>
  zrt v7))
  (zbd (zgR f_X0_papers (some x)) fun v8 =>
  zbd (zv1 30 v8 (fun a => o_J2_get w F a a5)) fun v9 =>
  zbd (zio y_X18 n_X18 v9) fun v10 =>
  zif (v10 = 0) (d_X0_grant_101 w F k40 x a2 a5 a3)
  (zbd (zcc y_X18 v9) fun _ =>
  zbd (zgI f_X18_granted v9) fun v11 =>
  zif (v11 = 0) (d_X0_grant_101 w F k40 x a2 a5 a3)
  (zbd (zgL f_X18_barred a2) fun v12 =>
  zif ((lg_cmp ((v12 >>> ((a5).toInt64 &&& 63)) &&& (1 : Int64)) (1 : Int64)) = 0) (d_X0_grant_106 w F k40 x a2 a5 a3 (0 : Int32))
  (d_X0_grant_101 w F k40 x a2 a5 a3))))
def d_X0_grant_40 (w : Wd) (F : Nat) (x : Nat) (a2 : Option Nat) : Nat → Int32 → Int32 → M Int32
  | 0, _, _ => zno
  | n + 1, a3, a5 => B_X0_grant_40 w F (d_X0_grant_40 w F x a2 n) x a2 a3 a5
def d_X0_grant_36 (w : Wd) (F : Nat) (x : Nat) (a2 : Option Nat) (s0 : Int32) : M Int32 :=
  d_X0_grant_40 w F x a2 F s0 (0 : Int32)
def d_X0_grant_35 (w : Wd) (F : Nat) (x : Nat) (a2 : Option Nat) : M Int32 :=
  d_X0_grant_36 w F x a2 (0 : Int32)
def o_X0_grant (w : Wd) (F : Nat) (x : Nat) (a1 : Int32) : M Int32 :=
  zbd (zv1 0 (some x) (fun a => o_X0_billAt w F a a1)) fun v1 =>
  zif (v1 = none) (zrt (-1 : Int32))
  (zbd (zgI f_X18_granted v1) fun v2 =>
  zif (v2 = 0) (zbd (zgI f_X0_today (some x)) fun v3 =>
  zbd (zv1 0 (some x) (fun a => o_X0_canLet w F a v1 v3)) fun v4 =>
  zif (v4 = 0) (d_X0_grant_35 w F x v1)
  (d_X0_grant_36 w F x v1 (1 : Int32)))
  (d_X0_grant_35 w F x v1))
theorem b_X0_grant_106 {w : Wd} {F : Nat} {k40 : Int32 → Int32 → M Int32} {x : Nat} {a2 : Option Nat} (hk40 : ∀ (a3 : Int32) (a5 : Int32) (h : Hp) (y : Int32) (h1 : Hp) (c s : Nat), k40 a3 a5 h = some (y, h1, c, s) → V w mX0_grant cX0_grant 802 c s h 40 [some (va_rf (some x)), none, some (va_rf a2), some (.int a3), none, some (.int a5), none] [] (Ro (oI y) h1)) {a5 : Int32} {s0 : Int32} {s1 : Int32} {h h1 : Hp} {y : Int32} {c s : Nat} (H : d_X0_grant_106 w F k40 x a2 a5 s0 s1 h = some (y, h1, c, s)) : V w mX0_grant cX0_grant 802 c s h 106 [some (va_rf (some x)), none, some (va_rf a2), none, none, some (.int a5), none] [.int s1, .int s0] (Ro (oI y) h1) := by
  unfold d_X0_grant_106 at H
  refine V_iand eX0_grant_106 ?_
  refine V_istore3 (znl_rf _) eX0_grant_107 rfl ?_
  refine V_iinc5 rfl eX0_grant_108 rfl (v := 1) (by decide) ?_
  refine V_goto eX0_grant_111 ?_
  exact V_fg2 (hk40 _ _ _ _ _ _ _ H) (zfg_k (zfg_n (zfg_k (zfg_k (zfg_n (zfg_k (zfg_n zfg_e)))))))
theorem b_X0_grant_101 {w : Wd} {F : Nat} {k40 : Int32 → Int32 → M Int32} {x : Nat} {a2 : Option Nat} (hk40 : ∀ (a3 : Int32) (a5 : Int32) (h : Hp) (y : Int32) (h1 : Hp) (c s : Nat), k40 a3 a5 h = some (y, h1, c, s) → V w mX0_grant cX0_grant 802 c s h 40 [some (va_rf (some x)), none, some (va_rf a2), some (.int a3), none, some (.int a5), none] [] (Ro (oI y) h1)) {a5 : Int32} {s0 : Int32} {h h1 : Hp} {y : Int32} {c s : Nat} (H : d_X0_grant_101 w F k40 x a2 a5 s0 h = some (y, h1, c, s)) : V w mX0_grant cX0_grant 802 c s h 101 [some (va_rf (some x)), none, some (va_rf a2), none, none, some (.int a5), none] [.int s0] (Ro (oI y) h1) := by
  unfold d_X0_grant_101 at H
  refine V_iconst (v := 1) (by decide) eX0_grant_101 ?_
  refine V_goto eX0_grant_102 ?_
  exact V_fg2 (b_X0_grant_106 hk40 H) (zfg_k (zfg_n (zfg_k (zfg_n (zfg_n (zfg_k (zfg_n zfg_e)))))))
theorem bB_X0_grant_40 {w : Wd} {F : Nat} {k40 : Int32 → Int32 → M Int32} {x : Nat} {a2 : Option Nat} (hk40 : ∀ (a3 : Int32) (a5 : Int32) (h : Hp) (y : Int32) (h1 : Hp) (c s : Nat), k40 a3 a5 h = some (y, h1, c, s) → V w mX0_grant cX0_grant 802 c s h 40 [some (va_rf (some x)), none, some (va_rf a2), some (.int a3), none, some (.int a5), none] [] (Ro (oI y) h1)) {a3 : Int32} {a5 : Int32} {h h1 : Hp} {y : Int32} {c s : Nat} (H : B_X0_grant_40 w F k40 x a2 a3 a5 h = some (y, h1, c, s)) : V w mX0_grant cX0_grant 802 c s h 40 [some (va_rf (some x)), none, some (va_rf a2), some (.int a3), none, some (.int a5), none] [] (Ro (oI y) h1) := by
  unfold B_X0_grant_40 at H
  refine V_iload5 eX0_grant_40 ?_
  refine V_aload0 eX0_grant_42 (zrf_rf _) ?_
  refine D_gR eX0_grant_43 fq_X0_121_tR H (fun v3 H => ?_)
  refine D_callI (pc' := 49) (st := [.int a5]) H (fun v h' c1 s1 e cb sb k => ?_) (fun v4 h c s H => ?_)
  · obtain ⟨a, hr, ha, hk, e9⟩ := zv1_ok e
    cases hr
    exact V_invokevirtual (k := 30) eX0_grant_46 lmJ2_size q156 q157 rfl rfl q158 ha hk (c_J2_size e9) (hRet_oI _ _) rfl rfl rfl rfl (kOI k)
  refine V_if_icmpge eX0_grant_49 (fun q => ?_) (fun q => ?_)
  · have H := zif_t q H
    refine V_iload3 eX0_grant_114 ?_
    refine V_ifne eX0_grant_115 (fun q => ?_) (fun q => ?_)
    · have H := zif_f q H
      refine V_aload2 eX0_grant_121 (zrf_rf _) ?_
      refine V_iconst (v := 1) (by decide) eX0_grant_122 ?_
      refine D_pZ eX0_grant_123 fq_X0_344_tZ fn_X0_grant_344 H (fun h H => ?_)
      refine V_aload2 eX0_grant_126 (zrf_rf _) ?_
      refine V_aload0 eX0_grant_127 (zrf_rf _) ?_
      refine V_aload2 eX0_grant_128 (zrf_rf _) ?_
      refine D_gR eX0_grant_129 fq_X0_303_tR H (fun v5 H => ?_)
      refine D_callI (pc' := 135) (st := [va_rf a2]) H (fun v h' c1 s1 e cb sb k => ?_) (fun v6 h c s H => ?_)
      · obtain ⟨a, hr, ha, hk, e9⟩ := zv1_ok e
        cases hr
        exact V_invokevirtual (k := 0) eX0_grant_132 lmX0_yardsOf q945 q947 rfl rfl qs26 ha hk (c_X0_yardsOf e9) (hRet_oI _ _) rfl rfl rfl (by simp only [List.map_cons, List.map_nil, zcr]; rfl) (kOI k)
      refine D_pI eX0_grant_135 fq_X0_348_tN fn_X0_grant_348 H (fun h H => ?_)
      refine V_aload0 eX0_grant_138 (zrf_rf _) ?_
      refine D_callI (pc' := 142) (st := []) H (fun v h' c1 s1 e cb sb k => ?_) (fun v7 h c s H => ?_)
      · obtain ⟨a, hr, ha, hk, e9⟩ := zv1_ok e
        cases hr
        exact V_invokevirtual (k := 0) eX0_grant_139 lmX0_grantedMany q1103 q1105 rfl rfl qs37 ha hk (c_X0_grantedMany e9) (hRet_oI _ _) rfl rfl rfl rfl (kOI k)
      obtain ⟨rfl, rfl, rfl, rfl⟩ := zrt_ok H
      exact V_ireturn eX0_grant_142 rfl ⟨rfl, rfl⟩
    · have H := zif_t q H
      refine V_bipush (v := -3) (by decide) eX0_grant_118 ?_
      obtain ⟨rfl, rfl, rfl, rfl⟩ := zrt_ok H
      exact V_ireturn eX0_grant_120 rfl ⟨rfl, rfl⟩
  · have H := zif_f q H
    refine V_iload3 eX0_grant_52 ?_
    refine V_aload0 eX0_grant_53 (zrf_rf _) ?_
    refine D_gR eX0_grant_54 fq_X0_121_tR H (fun v8 H => ?_)
    refine V_iload5 eX0_grant_57 ?_
    refine D_callR (pc' := 62) (st := [.int a3]) H (fun v h' c1 s1 e cb sb k => ?_) (fun v9 h c s H => ?_)
    · obtain ⟨a, hr, ha, hk, e9⟩ := zv1_ok e
      cases hr
      exact V_invokevirtual (k := 30) eX0_grant_59 lmJ2_get q160 q161 rfl rfl q162 ha hk (c_J2_get e9) (hRet_oR _ _) rfl rfl rfl rfl (kOR k)
    refine V_astore6 rfl eX0_grant_62 rfl (zrf_rf _) ?_
    refine V_aload6 eX0_grant_64 (zrf_rf _) ?_
    refine D_inst eX0_grant_66 q1014 y_X18_ok n_X18_ok H (fun v10 H => ?_)
    refine V_ifeq eX0_grant_69 (fun q => ?_) (fun q => ?_)
    · have H := zif_t q H
      exact V_fg2 (b_X0_grant_101 hk40 H) (zfg_k (zfg_n (zfg_k (zfg_n (zfg_n (zfg_k (zfg_n zfg_e)))))))
    · have H := zif_f q H
      refine V_aload6 eX0_grant_72 (zrf_rf _) ?_
      refine D_cast eX0_grant_74 q1014 y_X18_ok H (fun H => ?_)
      refine V_astore4 rfl eX0_grant_77 rfl (zrf_rf _) ?_
      refine V_aload4 eX0_grant_79 (zrf_rf _) ?_
      refine D_gI eX0_grant_81 fq_X0_344_tI H (fun v11 H => ?_)
      refine V_ifeq eX0_grant_84 (fun q => ?_) (fun q => ?_)
      · have H := zif_t q H
        exact V_fg2 (b_X0_grant_101 hk40 H) (zfg_k (zfg_n (zfg_k (zfg_n (zfg_n (zfg_k (zfg_n zfg_e)))))))
      · have H := zif_f q H
        refine V_aload2 eX0_grant_87 (zrf_rf _) ?_
        refine D_gL eX0_grant_88 fq_X0_340_tL H (fun v12 H => ?_)
        refine V_iload5 eX0_grant_91 ?_
        refine V_lshr eX0_grant_93 ?_
        refine V_lconst (v := 1) (by decide) eX0_grant_94 ?_
        refine V_land eX0_grant_95 ?_
        refine V_lconst (v := 1) (by decide) eX0_grant_96 ?_
        refine V_lcmp eX0_grant_97 ?_
        refine V_ifeq eX0_grant_98 (fun q => ?_) (fun q => ?_)
        · have H := zif_t q H
          refine V_iconst (v := 0) (by decide) eX0_grant_105 ?_
          exact V_fg2 (b_X0_grant_106 hk40 H) (zfg_k (zfg_n (zfg_k (zfg_n (zfg_n (zfg_k (zfg_n zfg_e)))))))
        · have H := zif_f q H
          exact V_fg2 (b_X0_grant_101 hk40 H) (zfg_k (zfg_n (zfg_k (zfg_n (zfg_n (zfg_k (zfg_n zfg_e)))))))
theorem b_X0_grant_40 {w : Wd} {F : Nat} {x : Nat} {a2 : Option Nat} : ∀ (n : Nat) (a3 : Int32) (a5 : Int32) (h : Hp) (y : Int32) (h1 : Hp) (c s : Nat), d_X0_grant_40 w F x a2 n a3 a5 h = some (y, h1, c, s) → V w mX0_grant cX0_grant 802 c s h 40 [some (va_rf (some x)), none, some (va_rf a2), some (.int a3), none, some (.int a5), none] [] (Ro (oI y) h1) := by
  intro n
  induction n with
  | zero => intro a3 a5 h y h1 c s H; exact zno_no H
  | succ n ih => intro a3 a5 h y h1 c s H; exact bB_X0_grant_40 ih H
theorem b_X0_grant_36 {w : Wd} {F : Nat} {x : Nat} {a2 : Option Nat} {s0 : Int32} {h h1 : Hp} {y : Int32} {c s : Nat} (H : d_X0_grant_36 w F x a2 s0 h = some (y, h1, c, s)) : V w mX0_grant cX0_grant 802 c s h 36 [some (va_rf (some x)), none, some (va_rf a2), none, none, none, none] [.int s0] (Ro (oI y) h1) := by
  unfold d_X0_grant_36 at H
  refine V_istore3 (znl_rf _) eX0_grant_36 rfl ?_
  refine V_iconst (v := 0) (by decide) eX0_grant_37 ?_
  refine V_istore5 rfl eX0_grant_38 rfl ?_
  exact V_fg2 (b_X0_grant_40 _ _ _ _ _ _ _ _ H) (zfg_k (zfg_n (zfg_k (zfg_k (zfg_n (zfg_k (zfg_n zfg_e)))))))
theorem b_X0_grant_35 {w : Wd} {F : Nat} {x : Nat} {a2 : Option Nat} {h h1 : Hp} {y : Int32} {c s : Nat} (H : d_X0_grant_35 w F x a2 h = some (y, h1, c, s)) : V w mX0_grant cX0_grant 802 c s h 35 [some (va_rf (some x)), none, some (va_rf a2), none, none, none, none] [] (Ro (oI y) h1) := by
  unfold d_X0_grant_35 at H
  refine V_iconst (v := 0) (by decide) eX0_grant_35 ?_
  exact V_fg2 (b_X0_grant_36 H) (zfg_k (zfg_n (zfg_k (zfg_n (zfg_n (zfg_n (zfg_n zfg_e)))))))
theorem c_X0_grant {w : Wd} {F : Nat} {x : Nat} {a1 : Int32} {h h1 : Hp} {y : Int32} {c s : Nat} (H : o_X0_grant w F x a1 h = some (y, h1, c, s)) : Con w mX0_grant cX0_grant 802 c s [.ref x, .int a1] h (Ro (oI y) h1) := by
  unfold o_X0_grant at H
  refine Con.of (ls := [some (va_rf (some x)), some (.int a1), none, none, none, none, none]) (by decide +kernel) rfl rfl ?_
  refine V_aload0 eX0_grant_0 (zrf_rf _) ?_
  refine V_iload1 eX0_grant_1 ?_
  refine D_callR (pc' := 5) (st := []) H (fun v h' c1 s1 e cb sb k => ?_) (fun v1 h c s H => ?_)
  · obtain ⟨a, hr, ha, hk, e9⟩ := zv1_ok e
    cases hr
    exact V_invokevirtual (k := 0) eX0_grant_2 lmX0_billAt q1060 q1062 rfl rfl qs33 ha hk (c_X0_billAt e9) (hRet_oR _ _) rfl rfl rfl rfl (kOR k)
  refine V_astore2 rfl eX0_grant_5 rfl (zrf_rf _) ?_
  refine V_aload2 eX0_grant_6 (zrf_rf _) ?_
  refine V_ifnonnull eX0_grant_7 (fun a q => ?_) (fun q => ?_)
  · have H := zif_f (zsn q) H
    refine V_aload2 eX0_grant_12 (zrf_rf _) ?_
    refine D_gI eX0_grant_13 fq_X0_344_tI H (fun v2 H => ?_)
    refine V_ifne eX0_grant_16 (fun q => ?_) (fun q => ?_)
    · have H := zif_f q H
      exact V_fg2 (b_X0_grant_35 H) (zfg_k (zfg_n (zfg_k (zfg_n (zfg_n (zfg_n (zfg_n zfg_e)))))))
    · have H := zif_t q H
      refine V_aload0 eX0_grant_19 (zrf_rf _) ?_
      refine V_aload2 eX0_grant_20 (zrf_rf _) ?_
      refine V_aload0 eX0_grant_21 (zrf_rf _) ?_
      refine D_gI eX0_grant_22 fq_X0_194_tI H (fun v3 H => ?_)
      refine D_callI (pc' := 28) (st := []) H (fun v h' c1 s1 e cb sb k => ?_) (fun v4 h c s H => ?_)
      · obtain ⟨a, hr, ha, hk, e9⟩ := zv1_ok e
        cases hr
        exact V_invokevirtual (k := 0) eX0_grant_25 lmX0_canLet q1064 q1066 rfl rfl qs34 ha hk (c_X0_canLet e9) (hRet_oI _ _) rfl rfl rfl rfl (kOI k)
      refine V_ifeq eX0_grant_28 (fun q => ?_) (fun q => ?_)
      · have H := zif_t q H
        exact V_fg2 (b_X0_grant_35 H) (zfg_k (zfg_n (zfg_k (zfg_n (zfg_n (zfg_n (zfg_n zfg_e)))))))
      · have H := zif_f q H
        refine V_iconst (v := 1) (by decide) eX0_grant_31 ?_
        refine V_goto eX0_grant_32 ?_
        exact V_fg2 (b_X0_grant_36 H) (zfg_k (zfg_n (zfg_k (zfg_n (zfg_n (zfg_n (zfg_n zfg_e)))))))
  · have H := zif_t q H
    refine V_iconst (v := -1) (by decide) eX0_grant_10 ?_
    obtain ⟨rfl, rfl, rfl, rfl⟩ := zrt_ok H
    exact V_ireturn eX0_grant_11 rfl ⟨rfl, rfl⟩
def o_X17_kind (w : Wd) (F : Nat) (x : Nat) : M Int32 :=
  zrt (6 : Int32)
theorem c_X17_kind {w : Wd} {F : Nat} {x : Nat} {h h1 : Hp} {y : Int32} {c s : Nat} (H : o_X17_kind w F x h = some (y, h1, c, s)) : Con w mX17_kind cX17_kind 0 c s [.ref x] h (Ro (oI y) h1) := by
  unfold o_X17_kind at H
  refine Con.of (ls := [some (va_rf (some x))]) (by decide +kernel) rfl rfl ?_
  refine V_bipush (v := 6) (by decide) eX17_kind_0 ?_
  obtain ⟨rfl, rfl, rfl, rfl⟩ := zrt_ok H
  exact V_ireturn eX17_kind_2 rfl ⟨rfl, rfl⟩
def o_X21_kind (w : Wd) (F : Nat) (x : Nat) : M Int32 :=
  zrt (4 : Int32)
theorem c_X21_kind {w : Wd} {F : Nat} {x : Nat} {h h1 : Hp} {y : Int32} {c s : Nat} (H : o_X21_kind w F x h = some (y, h1, c, s)) : Con w mX21_kind cX21_kind 0 c s [.ref x] h (Ro (oI y) h1) := by
  unfold o_X21_kind at H
  refine Con.of (ls := [some (va_rf (some x))]) (by decide +kernel) rfl rfl ?_
  refine V_iconst (v := 4) (by decide) eX21_kind_0 ?_
  obtain ⟨rfl, rfl, rfl, rfl⟩ := zrt_ok H
  exact V_ireturn eX21_kind_1 rfl ⟨rfl, rfl⟩
def o_X22_kind (w : Wd) (F : Nat) (x : Nat) : M Int32 :=
  zbd (zv0 (some x) (fun a => o_X21_kind w F a)) fun v1 =>
  zrt ((1 : Int32) + v1)
theorem c_X22_kind {w : Wd} {F : Nat} {x : Nat} {h h1 : Hp} {y : Int32} {c s : Nat} (H : o_X22_kind w F x h = some (y, h1, c, s)) : Con w mX22_kind cX22_kind 1 c s [.ref x] h (Ro (oI y) h1) := by
  unfold o_X22_kind at H
  refine Con.of (ls := [some (va_rf (some x))]) (by decide +kernel) rfl rfl ?_
  refine V_iconst (v := 1) (by decide) eX22_kind_0 ?_
  refine V_aload0 eX22_kind_1 (zrf_rf _) ?_
  refine D_callI (pc' := 5) (st := [.int (1 : Int32)]) H (fun v h' c1 s1 e cb sb k => ?_) (fun v1 h c s H => ?_)
  · obtain ⟨a, hr, ha, ok, e9⟩ := zv0_ok e
    cases hr
    exact V_invokesuper eX22_kind_2 lmX21_kind q1141 q2417 q1142 q1133 (by decide) ok ha rfl (c_X21_kind e9) (hRet_oI _ _) rfl rfl rfl rfl (kOI k)
  refine V_iadd eX22_kind_5 ?_
  obtain ⟨rfl, rfl, rfl, rfl⟩ := zrt_ok H
  exact V_ireturn eX22_kind_6 rfl ⟨rfl, rfl⟩
def t_X12_kind (w : Wd) (F : Nat) : Nat → Option (Nat → M Int32) := fun k => match k with
  | 13 => some (fun a => o_X13_kind w F a)
  | 15 => some (fun a => o_X15_kind w F a)
  | 17 => some (fun a => o_X17_kind w F a)
  | 18 => some (fun a => o_X18_kind w F a)
  | 21 => some (fun a => o_X21_kind w F a)
  | 22 => some (fun a => o_X22_kind w F a)
  | _ => none
theorem t_X12_kind_ok {w : Wd} {F : Nat} {k : Nat} {f : Nat → M Int32} (e : t_X12_kind w F k = some f) : (k = 13 ∧ f = fun a => o_X13_kind w F a) ∨ (k = 15 ∧ f = fun a => o_X15_kind w F a) ∨ (k = 17 ∧ f = fun a => o_X17_kind w F a) ∨ (k = 18 ∧ f = fun a => o_X18_kind w F a) ∨ (k = 21 ∧ f = fun a => o_X21_kind w F a) ∨ (k = 22 ∧ f = fun a => o_X22_kind w F a) := by
  unfold t_X12_kind at e
  split at e
  · cases e; exact Or.inl ⟨rfl, rfl⟩
  · cases e; exact Or.inr (Or.inl ⟨rfl, rfl⟩)
  · cases e; exact Or.inr (Or.inr (Or.inl ⟨rfl, rfl⟩))
  · cases e; exact Or.inr (Or.inr (Or.inr (Or.inl ⟨rfl, rfl⟩)))
  · cases e; exact Or.inr (Or.inr (Or.inr (Or.inr (Or.inl ⟨rfl, rfl⟩))))
  · cases e; exact Or.inr (Or.inr (Or.inr (Or.inr (Or.inr (⟨rfl, rfl⟩)))))
  · cases e
def d_X12_isUnder_17 (w : Wd) (F : Nat) (s0 : Int32) : M Int32 :=
  zbd (zgd (s0 = 0 ∨ s0 = 1)) fun _ => zrt s0
def d_X12_isUnder_12 (w : Wd) (F : Nat) : M Int32 :=
  d_X12_isUnder_17 w F (1 : Int32)
def o_X12_isUnder (w : Wd) (F : Nat) (x : Nat) (a1 : Int32) : M Int32 :=
  zif (a1 = 0) (d_X12_isUnder_12 w F)
  (zbd (zvn (t_X12_kind w F) (some x)) fun v1 =>
  zif (a1 = v1) (d_X12_isUnder_12 w F)
  (d_X12_isUnder_17 w F (0 : Int32)))
theorem b_X12_isUnder_17 {w : Wd} {F : Nat} {s0 : Int32} {h h1 : Hp} {y : Int32} {c s : Nat} (H : d_X12_isUnder_17 w F s0 h = some (y, h1, c, s)) : V w mX12_isUnder cX12_isUnder 2 c s h 17 [none, none] [.int s0] (Ro (oI y) h1) := by
  unfold d_X12_isUnder_17 at H
  obtain ⟨q, H⟩ := zgd_ok H
  obtain ⟨rfl, rfl, rfl, rfl⟩ := zrt_ok H
  exact V_zreturn eX12_isUnder_17 rfl q ⟨rfl, rfl⟩
theorem b_X12_isUnder_12 {w : Wd} {F : Nat} {h h1 : Hp} {y : Int32} {c s : Nat} (H : d_X12_isUnder_12 w F h = some (y, h1, c, s)) : V w mX12_isUnder cX12_isUnder 2 c s h 12 [none, none] [] (Ro (oI y) h1) := by
  unfold d_X12_isUnder_12 at H
  refine V_iconst (v := 1) (by decide) eX12_isUnder_12 ?_
  refine V_goto eX12_isUnder_13 ?_
  exact V_fg2 (b_X12_isUnder_17 H) (zfg_n (zfg_n zfg_e))
theorem c_X12_isUnder {w : Wd} {F : Nat} {x : Nat} {a1 : Int32} {h h1 : Hp} {y : Int32} {c s : Nat} (H : o_X12_isUnder w F x a1 h = some (y, h1, c, s)) : Con w mX12_isUnder cX12_isUnder 2 c s [.ref x, .int a1] h (Ro (oI y) h1) := by
  unfold o_X12_isUnder at H
  refine Con.of (ls := [some (va_rf (some x)), some (.int a1)]) (by decide +kernel) rfl rfl ?_
  refine V_iload1 eX12_isUnder_0 ?_
  refine V_ifeq eX12_isUnder_1 (fun q => ?_) (fun q => ?_)
  · have H := zif_t q H
    exact V_fg2 (b_X12_isUnder_12 H) (zfg_n (zfg_n zfg_e))
  · have H := zif_f q H
    refine V_iload1 eX12_isUnder_4 ?_
    refine V_aload0 eX12_isUnder_5 (zrf_rf _) ?_
    refine D_callI (pc' := 9) (st := [.int a1]) H (fun v h' c1 s1 e cb sb k => ?_) (fun v1 h c s H => ?_)
    · obtain ⟨a, f, hr, ha, ht, e9⟩ := zvn_ok e
      cases hr
      rcases t_X12_kind_ok ht with ⟨hk, hf⟩ | ⟨hk, hf⟩ | ⟨hk, hf⟩ | ⟨hk, hf⟩ | ⟨hk, hf⟩ | ⟨hk, hf⟩
      · subst hf; exact V_invokevirtualU (k := 13) eX12_isUnder_6 lmX13_kind (⟨"LinesPromised$Paper", q1128, q1130, q1144, q812, q125, ⟨by decide, by decide⟩, rfl, Or.inr (Or.inr q1129)⟩) (by decide) ha hk (c_X13_kind e9) (hRet_oI _ _) rfl rfl rfl rfl (kOI k)
      · subst hf; exact V_invokevirtualU (k := 15) eX12_isUnder_6 lmX15_kind (⟨"LinesPromised$Paper", q1128, q1130, q1143, q819, q127, ⟨by decide, by decide⟩, rfl, Or.inr (Or.inr q1129)⟩) (by decide) ha hk (c_X15_kind e9) (hRet_oI _ _) rfl rfl rfl rfl (kOI k)
      · subst hf; exact V_invokevirtualU (k := 17) eX12_isUnder_6 lmX17_kind (⟨"LinesPromised$Paper", q1128, q1130, q1135, q1136, q129, ⟨by decide, by decide⟩, rfl, Or.inr (Or.inr q1129)⟩) (by decide) ha hk (c_X17_kind e9) (hRet_oI _ _) rfl rfl rfl rfl (kOI k)
      · subst hf; exact V_invokevirtualU (k := 18) eX12_isUnder_6 lmX18_kind (⟨"LinesPromised$Paper", q1128, q1130, q1131, q816, q130, ⟨by decide, by decide⟩, rfl, Or.inr (Or.inr q1129)⟩) (by decide) ha hk (c_X18_kind e9) (hRet_oI _ _) rfl rfl rfl rfl (kOI k)
      · subst hf; exact V_invokevirtualU (k := 21) eX12_isUnder_6 lmX21_kind (⟨"LinesPromised$Paper", q1128, q1130, q1132, q1133, q133, ⟨by decide, by decide⟩, rfl, Or.inr (Or.inr q1129)⟩) (by decide) ha hk (c_X21_kind e9) (hRet_oI _ _) rfl rfl rfl rfl (kOI k)
      · subst hf; exact V_invokevirtualU (k := 22) eX12_isUnder_6 lmX22_kind (⟨"LinesPromised$Paper", q1128, q1130, q1138, q1139, q134, ⟨by decide, by decide⟩, rfl, Or.inr (Or.inr q1129)⟩) (by decide) ha hk (c_X22_kind e9) (hRet_oI _ _) rfl rfl rfl rfl (kOI k)
    refine V_if_icmpne eX12_isUnder_9 (fun q => ?_) (fun q => ?_)
    · have H := zif_f q H
      refine V_iconst (v := 0) (by decide) eX12_isUnder_16 ?_
      exact V_fg2 (b_X12_isUnder_17 H) (zfg_n (zfg_n zfg_e))
    · have H := zif_t q H
      exact V_fg2 (b_X12_isUnder_12 H) (zfg_n (zfg_n zfg_e))
def o_X12_worth (w : Wd) (F : Nat) (x : Nat) : M Int32 :=
  zrt (1 : Int32)
theorem c_X12_worth {w : Wd} {F : Nat} {x : Nat} {h h1 : Hp} {y : Int32} {c s : Nat} (H : o_X12_worth w F x h = some (y, h1, c, s)) : Con w mX12_worth cX12_worth 0 c s [.ref x] h (Ro (oI y) h1) := by
  unfold o_X12_worth at H
  refine Con.of (ls := [some (va_rf (some x))]) (by decide +kernel) rfl rfl ?_
  refine V_iconst (v := 1) (by decide) eX12_worth_0 ?_
  obtain ⟨rfl, rfl, rfl, rfl⟩ := zrt_ok H
  exact V_ireturn eX12_worth_1 rfl ⟨rfl, rfl⟩
def d_X13_isUnder_18 (w : Wd) (F : Nat) (s0 : Int32) : M Int32 :=
  zbd (zgd (s0 = 0 ∨ s0 = 1)) fun _ => zrt s0
def d_X13_isUnder_13 (w : Wd) (F : Nat) : M Int32 :=
  d_X13_isUnder_18 w F (1 : Int32)
def o_X13_isUnder (w : Wd) (F : Nat) (x : Nat) (a1 : Int32) : M Int32 :=
  zif (a1 = (1 : Int32)) (d_X13_isUnder_13 w F)
  (zbd (zv0 (some x) (fun a => o_X12_isUnder w F a a1)) fun v1 =>
  zif (v1 = 0) (d_X13_isUnder_18 w F (0 : Int32))
  (d_X13_isUnder_13 w F))
theorem b_X13_isUnder_18 {w : Wd} {F : Nat} {s0 : Int32} {h h1 : Hp} {y : Int32} {c s : Nat} (H : d_X13_isUnder_18 w F s0 h = some (y, h1, c, s)) : V w mX13_isUnder cX13_isUnder 3 c s h 18 [none, none] [.int s0] (Ro (oI y) h1) := by
  unfold d_X13_isUnder_18 at H
  obtain ⟨q, H⟩ := zgd_ok H
  obtain ⟨rfl, rfl, rfl, rfl⟩ := zrt_ok H
  exact V_zreturn eX13_isUnder_18 rfl q ⟨rfl, rfl⟩
theorem b_X13_isUnder_13 {w : Wd} {F : Nat} {h h1 : Hp} {y : Int32} {c s : Nat} (H : d_X13_isUnder_13 w F h = some (y, h1, c, s)) : V w mX13_isUnder cX13_isUnder 3 c s h 13 [none, none] [] (Ro (oI y) h1) := by
  unfold d_X13_isUnder_13 at H
  refine V_iconst (v := 1) (by decide) eX13_isUnder_13 ?_
  refine V_goto eX13_isUnder_14 ?_
  exact V_fg2 (b_X13_isUnder_18 H) (zfg_n (zfg_n zfg_e))
theorem c_X13_isUnder {w : Wd} {F : Nat} {x : Nat} {a1 : Int32} {h h1 : Hp} {y : Int32} {c s : Nat} (H : o_X13_isUnder w F x a1 h = some (y, h1, c, s)) : Con w mX13_isUnder cX13_isUnder 3 c s [.ref x, .int a1] h (Ro (oI y) h1) := by
  unfold o_X13_isUnder at H
  refine Con.of (ls := [some (va_rf (some x)), some (.int a1)]) (by decide +kernel) rfl rfl ?_
  refine V_iload1 eX13_isUnder_0 ?_
  refine V_iconst (v := 1) (by decide) eX13_isUnder_1 ?_
  refine V_if_icmpeq eX13_isUnder_2 (fun q => ?_) (fun q => ?_)
  · have H := zif_t q H
    exact V_fg2 (b_X13_isUnder_13 H) (zfg_n (zfg_n zfg_e))
  · have H := zif_f q H
    refine V_aload0 eX13_isUnder_5 (zrf_rf _) ?_
    refine V_iload1 eX13_isUnder_6 ?_
    refine D_callI (pc' := 10) (st := []) H (fun v h' c1 s1 e cb sb k => ?_) (fun v1 h c s H => ?_)
    · obtain ⟨a, hr, ha, ok, e9⟩ := zv0_ok e
      cases hr
      exact V_invokesuper eX13_isUnder_7 lmX12_isUnder q1117 q1113 q792 q1112 (by decide) ok ha rfl (c_X12_isUnder e9) (hRet_oI _ _) rfl rfl rfl rfl (kOI k)
    refine V_ifeq eX13_isUnder_10 (fun q => ?_) (fun q => ?_)
    · have H := zif_t q H
      refine V_iconst (v := 0) (by decide) eX13_isUnder_17 ?_
      exact V_fg2 (b_X13_isUnder_18 H) (zfg_n (zfg_n zfg_e))
    · have H := zif_f q H
      exact V_fg2 (b_X13_isUnder_13 H) (zfg_n (zfg_n zfg_e))
theorem fq_X13_35_tI : FQ RX13 35 f_X13_shares tI := by
  intro k j e
  unfold f_X13_shares at e
  split at e
  · cases e; exact ⟨fl_X13_35_13, Or.inl rfl⟩
  · cases e; exact ⟨fl_X13_35_15, Or.inl rfl⟩
  · cases e; exact ⟨fl_X13_35_18, Or.inl rfl⟩
  · cases e
def o_X13_worth (w : Wd) (F : Nat) (x : Nat) : M Int32 :=
  zbd (zgI f_X13_shares (some x)) fun v1 =>
  zrt ((10 : Int32) + v1)
theorem c_X13_worth {w : Wd} {F : Nat} {x : Nat} {h h1 : Hp} {y : Int32} {c s : Nat} (H : o_X13_worth w F x h = some (y, h1, c, s)) : Con w mX13_worth cX13_worth 0 c s [.ref x] h (Ro (oI y) h1) := by
  unfold o_X13_worth at H
  refine Con.of (ls := [some (va_rf (some x))]) (by decide +kernel) rfl rfl ?_
  refine V_bipush (v := 10) (by decide) eX13_worth_0 ?_
  refine V_aload0 eX13_worth_2 (zrf_rf _) ?_
  refine D_gI eX13_worth_3 fq_X13_35_tI H (fun v1 H => ?_)
  refine V_iadd eX13_worth_6 ?_
  obtain ⟨rfl, rfl, rfl, rfl⟩ := zrt_ok H
  exact V_ireturn eX13_worth_7 rfl ⟨rfl, rfl⟩
def o_X15_worth (w : Wd) (F : Nat) (x : Nat) : M Int32 :=
  zbd (zv0 (some x) (fun a => o_X13_worth w F a)) fun v1 =>
  zbd (zgI f_X15_many (some x)) fun v2 =>
  zrt (v1 + v2)
theorem c_X15_worth {w : Wd} {F : Nat} {x : Nat} {h h1 : Hp} {y : Int32} {c s : Nat} (H : o_X15_worth w F x h = some (y, h1, c, s)) : Con w mX15_worth cX15_worth 1 c s [.ref x] h (Ro (oI y) h1) := by
  unfold o_X15_worth at H
  refine Con.of (ls := [some (va_rf (some x))]) (by decide +kernel) rfl rfl ?_
  refine V_aload0 eX15_worth_0 (zrf_rf _) ?_
  refine D_callI (pc' := 4) (st := []) H (fun v h' c1 s1 e cb sb k => ?_) (fun v1 h c s H => ?_)
  · obtain ⟨a, hr, ha, ok, e9⟩ := zv0_ok e
    cases hr
    exact V_invokesuperI eX15_worth_1 lmX13_worth q1155 q1156 q871 q1159 q1158 rfl (by decide) ok ha rfl (c_X13_worth e9) (hRet_oI _ _) rfl rfl rfl rfl (kOI k)
  refine V_aload0 eX15_worth_4 (zrf_rf _) ?_
  refine D_gI eX15_worth_5 fq_X15_35_tI H (fun v2 H => ?_)
  refine V_iadd eX15_worth_8 ?_
  obtain ⟨rfl, rfl, rfl, rfl⟩ := zrt_ok H
  exact V_ireturn eX15_worth_9 rfl ⟨rfl, rfl⟩
theorem fq_X17_13_tI : FQ RX17 13 f_X17_coins tI := by
  intro k j e
  unfold f_X17_coins at e
  split at e
  · cases e; exact ⟨fl_X17_13_17, Or.inl rfl⟩
  · cases e
def o_X17_worth (w : Wd) (F : Nat) (x : Nat) : M Int32 :=
  zbd (zv0 (some x) (fun a => o_X12_worth w F a)) fun v1 =>
  zbd (zgI f_X17_coins (some x)) fun v2 =>
  zrt (v1 + v2)
theorem c_X17_worth {w : Wd} {F : Nat} {x : Nat} {h h1 : Hp} {y : Int32} {c s : Nat} (H : o_X17_worth w F x h = some (y, h1, c, s)) : Con w mX17_worth cX17_worth 1 c s [.ref x] h (Ro (oI y) h1) := by
  unfold o_X17_worth at H
  refine Con.of (ls := [some (va_rf (some x))]) (by decide +kernel) rfl rfl ?_
  refine V_aload0 eX17_worth_0 (zrf_rf _) ?_
  refine D_callI (pc' := 4) (st := []) H (fun v h' c1 s1 e cb sb k => ?_) (fun v1 h c s H => ?_)
  · obtain ⟨a, hr, ha, ok, e9⟩ := zv0_ok e
    cases hr
    exact V_invokesuper eX17_worth_1 lmX12_worth q1168 q1147 q1009 q1146 (by decide) ok ha rfl (c_X12_worth e9) (hRet_oI _ _) rfl rfl rfl rfl (kOI k)
  refine V_aload0 eX17_worth_4 (zrf_rf _) ?_
  refine D_gI eX17_worth_5 fq_X17_13_tI H (fun v2 H => ?_)
  refine V_iadd eX17_worth_8 ?_
  obtain ⟨rfl, rfl, rfl, rfl⟩ := zrt_ok H
  exact V_ireturn eX17_worth_9 rfl ⟨rfl, rfl⟩
def o_X18_worth (w : Wd) (F : Nat) (x : Nat) : M Int32 :=
  zbd (zgR f_X18_plan (some x)) fun v1 =>
  zbd (zv1 15 v1 (fun a => o_X15_worth w F a)) fun v2 =>
  zrt ((2 : Int32) * v2)
theorem c_X18_worth {w : Wd} {F : Nat} {x : Nat} {h h1 : Hp} {y : Int32} {c s : Nat} (H : o_X18_worth w F x h = some (y, h1, c, s)) : Con w mX18_worth cX18_worth 2 c s [.ref x] h (Ro (oI y) h1) := by
  unfold o_X18_worth at H
  refine Con.of (ls := [some (va_rf (some x))]) (by decide +kernel) rfl rfl ?_
  refine V_iconst (v := 2) (by decide) eX18_worth_0 ?_
  refine V_aload0 eX18_worth_1 (zrf_rf _) ?_
  refine D_gR eX18_worth_2 fq_X18_21_tR H (fun v1 H => ?_)
  refine D_callI (pc' := 8) (st := [.int (2 : Int32)]) H (fun v h' c1 s1 e cb sb k => ?_) (fun v2 h c s H => ?_)
  · obtain ⟨a, hr, ha, hk, e9⟩ := zv1_ok e
    cases hr
    exact V_invokevirtual (k := 15) eX18_worth_5 lmX15_worth q1151 q1152 rfl rfl q1153 ha hk (c_X15_worth e9) (hRet_oI _ _) rfl rfl rfl rfl (kOI k)
  refine V_imul eX18_worth_8 ?_
  obtain ⟨rfl, rfl, rfl, rfl⟩ := zrt_ok H
  exact V_ireturn eX18_worth_9 rfl ⟨rfl, rfl⟩
def d_X21_isUnder_18 (w : Wd) (F : Nat) (s0 : Int32) : M Int32 :=
  zbd (zgd (s0 = 0 ∨ s0 = 1)) fun _ => zrt s0
def d_X21_isUnder_13 (w : Wd) (F : Nat) : M Int32 :=
  d_X21_isUnder_18 w F (1 : Int32)
def o_X21_isUnder (w : Wd) (F : Nat) (x : Nat) (a1 : Int32) : M Int32 :=
  zif (a1 = (4 : Int32)) (d_X21_isUnder_13 w F)
  (zbd (zv0 (some x) (fun a => o_X12_isUnder w F a a1)) fun v1 =>
  zif (v1 = 0) (d_X21_isUnder_18 w F (0 : Int32))
  (d_X21_isUnder_13 w F))
theorem b_X21_isUnder_18 {w : Wd} {F : Nat} {s0 : Int32} {h h1 : Hp} {y : Int32} {c s : Nat} (H : d_X21_isUnder_18 w F s0 h = some (y, h1, c, s)) : V w mX21_isUnder cX21_isUnder 3 c s h 18 [none, none] [.int s0] (Ro (oI y) h1) := by
  unfold d_X21_isUnder_18 at H
  obtain ⟨q, H⟩ := zgd_ok H
  obtain ⟨rfl, rfl, rfl, rfl⟩ := zrt_ok H
  exact V_zreturn eX21_isUnder_18 rfl q ⟨rfl, rfl⟩
theorem b_X21_isUnder_13 {w : Wd} {F : Nat} {h h1 : Hp} {y : Int32} {c s : Nat} (H : d_X21_isUnder_13 w F h = some (y, h1, c, s)) : V w mX21_isUnder cX21_isUnder 3 c s h 13 [none, none] [] (Ro (oI y) h1) := by
  unfold d_X21_isUnder_13 at H
  refine V_iconst (v := 1) (by decide) eX21_isUnder_13 ?_
  refine V_goto eX21_isUnder_14 ?_
  exact V_fg2 (b_X21_isUnder_18 H) (zfg_n (zfg_n zfg_e))
theorem c_X21_isUnder {w : Wd} {F : Nat} {x : Nat} {a1 : Int32} {h h1 : Hp} {y : Int32} {c s : Nat} (H : o_X21_isUnder w F x a1 h = some (y, h1, c, s)) : Con w mX21_isUnder cX21_isUnder 3 c s [.ref x, .int a1] h (Ro (oI y) h1) := by
  unfold o_X21_isUnder at H
  refine Con.of (ls := [some (va_rf (some x)), some (.int a1)]) (by decide +kernel) rfl rfl ?_
  refine V_iload1 eX21_isUnder_0 ?_
  refine V_iconst (v := 4) (by decide) eX21_isUnder_1 ?_
  refine V_if_icmpeq eX21_isUnder_2 (fun q => ?_) (fun q => ?_)
  · have H := zif_t q H
    exact V_fg2 (b_X21_isUnder_13 H) (zfg_n (zfg_n zfg_e))
  · have H := zif_f q H
    refine V_aload0 eX21_isUnder_5 (zrf_rf _) ?_
    refine V_iload1 eX21_isUnder_6 ?_
    refine D_callI (pc' := 10) (st := []) H (fun v h' c1 s1 e cb sb k => ?_) (fun v1 h c s H => ?_)
    · obtain ⟨a, hr, ha, ok, e9⟩ := zv0_ok e
      cases hr
      exact V_invokesuper eX21_isUnder_7 lmX12_isUnder q1121 q1113 q1122 q1112 (by decide) ok ha rfl (c_X12_isUnder e9) (hRet_oI _ _) rfl rfl rfl rfl (kOI k)
    refine V_ifeq eX21_isUnder_10 (fun q => ?_) (fun q => ?_)
    · have H := zif_t q H
      refine V_iconst (v := 0) (by decide) eX21_isUnder_17 ?_
      exact V_fg2 (b_X21_isUnder_18 H) (zfg_n (zfg_n zfg_e))
    · have H := zif_f q H
      exact V_fg2 (b_X21_isUnder_13 H) (zfg_n (zfg_n zfg_e))
def f_X21_pence : Nat → Option Nat := fun k => match k with
  | 21 => some 3
  | 22 => some 3
  | _ => none
theorem fq_X21_13_tI : FQ RX21 13 f_X21_pence tI := by
  intro k j e
  unfold f_X21_pence at e
  split at e
  · cases e; exact ⟨fl_X21_13_21, Or.inl rfl⟩
  · cases e; exact ⟨fl_X21_13_22, Or.inl rfl⟩
  · cases e
def o_X21_worth (w : Wd) (F : Nat) (x : Nat) : M Int32 :=
  zbd (zv0 (some x) (fun a => o_X12_worth w F a)) fun v1 =>
  zbd (zgI f_X21_pence (some x)) fun v2 =>
  zrt (((3 : Int32) + v1) + v2)
theorem c_X21_worth {w : Wd} {F : Nat} {x : Nat} {h h1 : Hp} {y : Int32} {c s : Nat} (H : o_X21_worth w F x h = some (y, h1, c, s)) : Con w mX21_worth cX21_worth 1 c s [.ref x] h (Ro (oI y) h1) := by
  unfold o_X21_worth at H
  refine Con.of (ls := [some (va_rf (some x))]) (by decide +kernel) rfl rfl ?_
  refine V_iconst (v := 3) (by decide) eX21_worth_0 ?_
  refine V_aload0 eX21_worth_1 (zrf_rf _) ?_
  refine D_callI (pc' := 5) (st := [.int (3 : Int32)]) H (fun v h' c1 s1 e cb sb k => ?_) (fun v1 h c s H => ?_)
  · obtain ⟨a, hr, ha, ok, e9⟩ := zv0_ok e
    cases hr
    exact V_invokesuper eX21_worth_2 lmX12_worth q1164 q1147 q1122 q1146 (by decide) ok ha rfl (c_X12_worth e9) (hRet_oI _ _) rfl rfl rfl rfl (kOI k)
  refine V_iadd eX21_worth_5 ?_
  refine V_aload0 eX21_worth_6 (zrf_rf _) ?_
  refine D_gI eX21_worth_7 fq_X21_13_tI H (fun v2 H => ?_)
  refine V_iadd eX21_worth_10 ?_
  obtain ⟨rfl, rfl, rfl, rfl⟩ := zrt_ok H
  exact V_ireturn eX21_worth_11 rfl ⟨rfl, rfl⟩
def o_X22_worth (w : Wd) (F : Nat) (x : Nat) : M Int32 :=
  zbd (zv0 (some x) (fun a => o_X21_worth w F a)) fun v1 =>
  zrt (((2 : Int32) * v1) - (1 : Int32))
theorem c_X22_worth {w : Wd} {F : Nat} {x : Nat} {h h1 : Hp} {y : Int32} {c s : Nat} (H : o_X22_worth w F x h = some (y, h1, c, s)) : Con w mX22_worth cX22_worth 2 c s [.ref x] h (Ro (oI y) h1) := by
  unfold o_X22_worth at H
  refine Con.of (ls := [some (va_rf (some x))]) (by decide +kernel) rfl rfl ?_
  refine V_iconst (v := 2) (by decide) eX22_worth_0 ?_
  refine V_aload0 eX22_worth_1 (zrf_rf _) ?_
  refine D_callI (pc' := 5) (st := [.int (2 : Int32)]) H (fun v h' c1 s1 e cb sb k => ?_) (fun v1 h c s H => ?_)
  · obtain ⟨a, hr, ha, ok, e9⟩ := zv0_ok e
    cases hr
    exact V_invokesuper eX22_worth_2 lmX21_worth q1172 q2418 q1142 q1162 (by decide) ok ha rfl (c_X21_worth e9) (hRet_oI _ _) rfl rfl rfl rfl (kOI k)
  refine V_imul eX22_worth_5 ?_
  refine V_iconst (v := 1) (by decide) eX22_worth_6 ?_
  refine V_isub eX22_worth_7 ?_
  obtain ⟨rfl, rfl, rfl, rfl⟩ := zrt_ok H
  exact V_ireturn eX22_worth_8 rfl ⟨rfl, rfl⟩
def t_X12_isUnder (w : Wd) (F : Nat) (p0 : Int32) : Nat → Option (Nat → M Int32) := fun k => match k with
  | 13 => some (fun a => o_X13_isUnder w F a p0)
  | 15 => some (fun a => o_X13_isUnder w F a p0)
  | 17 => some (fun a => o_X12_isUnder w F a p0)
  | 18 => some (fun a => o_X13_isUnder w F a p0)
  | 21 => some (fun a => o_X21_isUnder w F a p0)
  | 22 => some (fun a => o_X21_isUnder w F a p0)
  | _ => none
theorem t_X12_isUnder_ok {w : Wd} {F : Nat} {p0 : Int32} {k : Nat} {f : Nat → M Int32} (e : t_X12_isUnder w F p0 k = some f) : (k = 13 ∧ f = fun a => o_X13_isUnder w F a p0) ∨ (k = 15 ∧ f = fun a => o_X13_isUnder w F a p0) ∨ (k = 17 ∧ f = fun a => o_X12_isUnder w F a p0) ∨ (k = 18 ∧ f = fun a => o_X13_isUnder w F a p0) ∨ (k = 21 ∧ f = fun a => o_X21_isUnder w F a p0) ∨ (k = 22 ∧ f = fun a => o_X21_isUnder w F a p0) := by
  unfold t_X12_isUnder at e
  split at e
  · cases e; exact Or.inl ⟨rfl, rfl⟩
  · cases e; exact Or.inr (Or.inl ⟨rfl, rfl⟩)
  · cases e; exact Or.inr (Or.inr (Or.inl ⟨rfl, rfl⟩))
  · cases e; exact Or.inr (Or.inr (Or.inr (Or.inl ⟨rfl, rfl⟩)))
  · cases e; exact Or.inr (Or.inr (Or.inr (Or.inr (Or.inl ⟨rfl, rfl⟩))))
  · cases e; exact Or.inr (Or.inr (Or.inr (Or.inr (Or.inr (⟨rfl, rfl⟩)))))
  · cases e
def t_X12_worth (w : Wd) (F : Nat) : Nat → Option (Nat → M Int32) := fun k => match k with
  | 13 => some (fun a => o_X13_worth w F a)
  | 15 => some (fun a => o_X15_worth w F a)
  | 17 => some (fun a => o_X17_worth w F a)
  | 18 => some (fun a => o_X18_worth w F a)
  | 21 => some (fun a => o_X21_worth w F a)
  | 22 => some (fun a => o_X22_worth w F a)
  | _ => none
theorem t_X12_worth_ok {w : Wd} {F : Nat} {k : Nat} {f : Nat → M Int32} (e : t_X12_worth w F k = some f) : (k = 13 ∧ f = fun a => o_X13_worth w F a) ∨ (k = 15 ∧ f = fun a => o_X15_worth w F a) ∨ (k = 17 ∧ f = fun a => o_X17_worth w F a) ∨ (k = 18 ∧ f = fun a => o_X18_worth w F a) ∨ (k = 21 ∧ f = fun a => o_X21_worth w F a) ∨ (k = 22 ∧ f = fun a => o_X22_worth w F a) := by
  unfold t_X12_worth at e
  split at e
  · cases e; exact Or.inl ⟨rfl, rfl⟩
  · cases e; exact Or.inr (Or.inl ⟨rfl, rfl⟩)
  · cases e; exact Or.inr (Or.inr (Or.inl ⟨rfl, rfl⟩))
  · cases e; exact Or.inr (Or.inr (Or.inr (Or.inl ⟨rfl, rfl⟩)))
  · cases e; exact Or.inr (Or.inr (Or.inr (Or.inr (Or.inl ⟨rfl, rfl⟩))))
  · cases e; exact Or.inr (Or.inr (Or.inr (Or.inr (Or.inr (⟨rfl, rfl⟩)))))
  · cases e
def d_X0_cast_20 (w : Wd) (F : Nat) : M Int32 :=
  zrt (-1 : Int32)
def d_X0_cast_39 (w : Wd) (F : Nat) (s0 : Int32) : M Int32 :=
  zrt s0
def o_X0_cast (w : Wd) (F : Nat) (x : Nat) (a1 : Int32) (a2 : Int32) : M Int32 :=
  zbd (zv1 0 (some x) (fun a => o_X0_paperAt w F a a1)) fun v1 =>
  zif (v1 = none) (d_X0_cast_20 w F)
  (zbd (o_X0_in w F a2 (0 : Int32) (6 : Int32)) fun v2 =>
  zif (v2 = 0) (d_X0_cast_20 w F)
  (zbd (zvn (t_X12_isUnder w F a2) v1) fun v3 =>
  zif (v3 = 0) (d_X0_cast_39 w F (-13 : Int32))
  (zbd (zvn (t_X12_worth w F) v1) fun v4 =>
  d_X0_cast_39 w F v4)))
theorem b_X0_cast_20 {w : Wd} {F : Nat} {h h1 : Hp} {y : Int32} {c s : Nat} (H : d_X0_cast_20 w F h = some (y, h1, c, s)) : V w mX0_cast cX0_cast 4 c s h 20 [none, none, none, none] [] (Ro (oI y) h1) := by
  unfold d_X0_cast_20 at H
  refine V_iconst (v := -1) (by decide) eX0_cast_20 ?_
  obtain ⟨rfl, rfl, rfl, rfl⟩ := zrt_ok H
  exact V_ireturn eX0_cast_21 rfl ⟨rfl, rfl⟩
theorem b_X0_cast_39 {w : Wd} {F : Nat} {s0 : Int32} {h h1 : Hp} {y : Int32} {c s : Nat} (H : d_X0_cast_39 w F s0 h = some (y, h1, c, s)) : V w mX0_cast cX0_cast 4 c s h 39 [none, none, none, none] [.int s0] (Ro (oI y) h1) := by
  unfold d_X0_cast_39 at H
  obtain ⟨rfl, rfl, rfl, rfl⟩ := zrt_ok H
  exact V_ireturn eX0_cast_39 rfl ⟨rfl, rfl⟩
theorem c_X0_cast {w : Wd} {F : Nat} {x : Nat} {a1 : Int32} {a2 : Int32} {h h1 : Hp} {y : Int32} {c s : Nat} (H : o_X0_cast w F x a1 a2 h = some (y, h1, c, s)) : Con w mX0_cast cX0_cast 4 c s [.ref x, .int a1, .int a2] h (Ro (oI y) h1) := by
  unfold o_X0_cast at H
  refine Con.of (ls := [some (va_rf (some x)), some (.int a1), some (.int a2), none]) (by decide +kernel) rfl rfl ?_
  refine V_aload0 eX0_cast_0 (zrf_rf _) ?_
  refine V_iload1 eX0_cast_1 ?_
  refine D_callR (pc' := 5) (st := []) H (fun v h' c1 s1 e cb sb k => ?_) (fun v1 h c s H => ?_)
  · obtain ⟨a, hr, ha, hk, e9⟩ := zv1_ok e
    cases hr
    exact V_invokevirtual (k := 0) eX0_cast_2 lmX0_paperAt q806 q808 rfl rfl qs22 ha hk (c_X0_paperAt e9) (hRet_oR _ _) rfl rfl rfl rfl (kOR k)
  refine V_astore3 rfl eX0_cast_5 rfl (zrf_rf _) ?_
  refine V_aload3 eX0_cast_6 (zrf_rf _) ?_
  refine V_ifnull eX0_cast_7 (fun q => ?_) (fun a q => ?_)
  · have H := zif_t q H
    exact V_fg2 (b_X0_cast_20 H) (zfg_n (zfg_n (zfg_n (zfg_n zfg_e))))
  · have H := zif_f (zsn q) H
    refine V_iload2 eX0_cast_10 ?_
    refine V_iconst (v := 0) (by decide) eX0_cast_11 ?_
    refine V_bipush (v := 6) (by decide) eX0_cast_12 ?_
    refine D_callI (pc' := 17) (st := []) H (fun v h' c1 s1 e cb sb k => ?_) (fun v2 h c s H => ?_)
    · exact V_invokestatic eX0_cast_14 lmX0_in q149 q150 (c_X0_in e) (hRet_oI _ _) rfl rfl rfl rfl (kOI k)
    refine V_ifne eX0_cast_17 (fun q => ?_) (fun q => ?_)
    · have H := zif_f q H
      refine V_aload3 eX0_cast_22 (zrf_rf _) ?_
      refine V_iload2 eX0_cast_23 ?_
      refine D_callI (pc' := 27) (st := []) H (fun v h' c1 s1 e cb sb k => ?_) (fun v3 h c s H => ?_)
      · obtain ⟨a, f, hr, ha, ht, e9⟩ := zvn_ok e
        cases hr
        rcases t_X12_isUnder_ok ht with ⟨hk, hf⟩ | ⟨hk, hf⟩ | ⟨hk, hf⟩ | ⟨hk, hf⟩ | ⟨hk, hf⟩ | ⟨hk, hf⟩
        · subst hf; exact V_invokevirtualU (k := 13) eX0_cast_24 lmX13_isUnder (⟨"LinesPromised$Paper", q1111, q1113, q1126, q1115, q125, ⟨by decide, by decide⟩, rfl, Or.inr (Or.inl ⟨q1112, _, _, _, q1127⟩)⟩) (by decide) ha hk (c_X13_isUnder e9) (hRet_oI _ _) rfl rfl rfl rfl (kOI k)
        · subst hf; exact V_invokevirtualU (k := 15) eX0_cast_24 lmX13_isUnder (⟨"LinesPromised$Paper", q1111, q1113, q1125, q1115, q125, ⟨by decide, by decide⟩, rfl, Or.inr (Or.inl ⟨q1112, _, _, _, q1127⟩)⟩) (by decide) ha hk (c_X13_isUnder e9) (hRet_oI _ _) rfl rfl rfl rfl (kOI k)
        · subst hf; exact V_invokevirtualU (k := 17) eX0_cast_24 lmX12_isUnder (⟨"LinesPromised$Paper", q1111, q1113, q1123, q1112, q124, ⟨by decide, by decide⟩, rfl, Or.inl rfl⟩) (by decide) ha hk (c_X12_isUnder e9) (hRet_oI _ _) rfl rfl rfl rfl (kOI k)
        · subst hf; exact V_invokevirtualU (k := 18) eX0_cast_24 lmX13_isUnder (⟨"LinesPromised$Paper", q1111, q1113, q1114, q1115, q125, ⟨by decide, by decide⟩, rfl, Or.inr (Or.inl ⟨q1112, _, _, _, q1127⟩)⟩) (by decide) ha hk (c_X13_isUnder e9) (hRet_oI _ _) rfl rfl rfl rfl (kOI k)
        · subst hf; exact V_invokevirtualU (k := 21) eX0_cast_24 lmX21_isUnder (⟨"LinesPromised$Paper", q1111, q1113, q1118, q1119, q133, ⟨by decide, by decide⟩, rfl, Or.inr (Or.inl ⟨q1112, _, _, _, q1127⟩)⟩) (by decide) ha hk (c_X21_isUnder e9) (hRet_oI _ _) rfl rfl rfl rfl (kOI k)
        · subst hf; exact V_invokevirtualU (k := 22) eX0_cast_24 lmX21_isUnder (⟨"LinesPromised$Paper", q1111, q1113, q1124, q1119, q133, ⟨by decide, by decide⟩, rfl, Or.inr (Or.inl ⟨q1112, _, _, _, q1127⟩)⟩) (by decide) ha hk (c_X21_isUnder e9) (hRet_oI _ _) rfl rfl rfl rfl (kOI k)
      refine V_ifeq eX0_cast_27 (fun q => ?_) (fun q => ?_)
      · have H := zif_t q H
        refine V_bipush (v := -13) (by decide) eX0_cast_37 ?_
        exact V_fg2 (b_X0_cast_39 H) (zfg_n (zfg_n (zfg_n (zfg_n zfg_e))))
      · have H := zif_f q H
        refine V_aload3 eX0_cast_30 (zrf_rf _) ?_
        refine D_callI (pc' := 34) (st := []) H (fun v h' c1 s1 e cb sb k => ?_) (fun v4 h c s H => ?_)
        · obtain ⟨a, f, hr, ha, ht, e9⟩ := zvn_ok e
          cases hr
          rcases t_X12_worth_ok ht with ⟨hk, hf⟩ | ⟨hk, hf⟩ | ⟨hk, hf⟩ | ⟨hk, hf⟩ | ⟨hk, hf⟩ | ⟨hk, hf⟩
          · subst hf; exact V_invokevirtualU (k := 13) eX0_cast_31 lmX13_worth (⟨"LinesPromised$Paper", q1145, q1147, q1174, q1159, q125, ⟨by decide, by decide⟩, rfl, Or.inr (Or.inl ⟨q1146, _, _, _, q1175⟩)⟩) (by decide) ha hk (c_X13_worth e9) (hRet_oI _ _) rfl rfl rfl rfl (kOI k)
          · subst hf; exact V_invokevirtualU (k := 15) eX0_cast_31 lmX15_worth (⟨"LinesPromised$Paper", q1145, q1147, q1173, q1152, q127, ⟨by decide, by decide⟩, rfl, Or.inr (Or.inl ⟨q1146, _, _, _, q1175⟩)⟩) (by decide) ha hk (c_X15_worth e9) (hRet_oI _ _) rfl rfl rfl rfl (kOI k)
          · subst hf; exact V_invokevirtualU (k := 17) eX0_cast_31 lmX17_worth (⟨"LinesPromised$Paper", q1145, q1147, q1165, q1166, q129, ⟨by decide, by decide⟩, rfl, Or.inr (Or.inl ⟨q1146, _, _, _, q1175⟩)⟩) (by decide) ha hk (c_X17_worth e9) (hRet_oI _ _) rfl rfl rfl rfl (kOI k)
          · subst hf; exact V_invokevirtualU (k := 18) eX0_cast_31 lmX18_worth (⟨"LinesPromised$Paper", q1145, q1147, q1148, q1149, q130, ⟨by decide, by decide⟩, rfl, Or.inr (Or.inl ⟨q1146, _, _, _, q1175⟩)⟩) (by decide) ha hk (c_X18_worth e9) (hRet_oI _ _) rfl rfl rfl rfl (kOI k)
          · subst hf; exact V_invokevirtualU (k := 21) eX0_cast_31 lmX21_worth (⟨"LinesPromised$Paper", q1145, q1147, q1161, q1162, q133, ⟨by decide, by decide⟩, rfl, Or.inr (Or.inl ⟨q1146, _, _, _, q1175⟩)⟩) (by decide) ha hk (c_X21_worth e9) (hRet_oI _ _) rfl rfl rfl rfl (kOI k)
          · subst hf; exact V_invokevirtualU (k := 22) eX0_cast_31 lmX22_worth (⟨"LinesPromised$Paper", q1145, q1147, q1169, q1170, q134, ⟨by decide, by decide⟩, rfl, Or.inr (Or.inl ⟨q1146, _, _, _, q1175⟩)⟩) (by decide) ha hk (c_X22_worth e9) (hRet_oI _ _) rfl rfl rfl rfl (kOI k)
        refine V_goto eX0_cast_34 ?_
        exact V_fg2 (b_X0_cast_39 H) (zfg_n (zfg_n (zfg_n (zfg_n zfg_e))))
    · have H := zif_t q H
      exact V_fg2 (b_X0_cast_20 H) (zfg_n (zfg_n (zfg_n (zfg_n zfg_e))))
def o_X12_first (w : Wd) (F : Nat) (x : Nat) : M Int32 :=
  zrt (-1 : Int32)
theorem c_X12_first {w : Wd} {F : Nat} {x : Nat} {h h1 : Hp} {y : Int32} {c s : Nat} (H : o_X12_first w F x h = some (y, h1, c, s)) : Con w mX12_first cX12_first 0 c s [.ref x] h (Ro (oI y) h1) := by
  unfold o_X12_first at H
  refine Con.of (ls := [some (va_rf (some x))]) (by decide +kernel) rfl rfl ?_
  refine V_iconst (v := -1) (by decide) eX12_first_0 ?_
  obtain ⟨rfl, rfl, rfl, rfl⟩ := zrt_ok H
  exact V_ireturn eX12_first_1 rfl ⟨rfl, rfl⟩
def o_X12_gauge (w : Wd) (F : Nat) (x : Nat) : M Int32 :=
  zrt (-1 : Int32)
theorem c_X12_gauge {w : Wd} {F : Nat} {x : Nat} {h h1 : Hp} {y : Int32} {c s : Nat} (H : o_X12_gauge w F x h = some (y, h1, c, s)) : Con w mX12_gauge cX12_gauge 0 c s [.ref x] h (Ro (oI y) h1) := by
  unfold o_X12_gauge at H
  refine Con.of (ls := [some (va_rf (some x))]) (by decide +kernel) rfl rfl ?_
  refine V_iconst (v := -1) (by decide) eX12_gauge_0 ?_
  obtain ⟨rfl, rfl, rfl, rfl⟩ := zrt_ok H
  exact V_ireturn eX12_gauge_1 rfl ⟨rfl, rfl⟩
def o_X12_isDone (w : Wd) (F : Nat) (x : Nat) : M Int32 :=
  zbd (zgd ((0 : Int32) = 0 ∨ (0 : Int32) = 1)) fun _ => zrt (0 : Int32)
theorem c_X12_isDone {w : Wd} {F : Nat} {x : Nat} {h h1 : Hp} {y : Int32} {c s : Nat} (H : o_X12_isDone w F x h = some (y, h1, c, s)) : Con w mX12_isDone cX12_isDone 0 c s [.ref x] h (Ro (oI y) h1) := by
  unfold o_X12_isDone at H
  refine Con.of (ls := [some (va_rf (some x))]) (by decide +kernel) rfl rfl ?_
  refine V_iconst (v := 0) (by decide) eX12_isDone_0 ?_
  obtain ⟨q, H⟩ := zgd_ok H
  obtain ⟨rfl, rfl, rfl, rfl⟩ := zrt_ok H
  exact V_zreturn eX12_isDone_1 rfl q ⟨rfl, rfl⟩
def o_X12_of (w : Wd) (F : Nat) (x : Nat) : M Int32 :=
  zrt (-1 : Int32)
theorem c_X12_of {w : Wd} {F : Nat} {x : Nat} {h h1 : Hp} {y : Int32} {c s : Nat} (H : o_X12_of w F x h = some (y, h1, c, s)) : Con w mX12_of cX12_of 0 c s [.ref x] h (Ro (oI y) h1) := by
  unfold o_X12_of at H
  refine Con.of (ls := [some (va_rf (some x))]) (by decide +kernel) rfl rfl ?_
  refine V_iconst (v := -1) (by decide) eX12_of_0 ?_
  obtain ⟨rfl, rfl, rfl, rfl⟩ := zrt_ok H
  exact V_ireturn eX12_of_1 rfl ⟨rfl, rfl⟩
def o_X12_second (w : Wd) (F : Nat) (x : Nat) : M Int32 :=
  zrt (-1 : Int32)
theorem c_X12_second {w : Wd} {F : Nat} {x : Nat} {h h1 : Hp} {y : Int32} {c s : Nat} (H : o_X12_second w F x h = some (y, h1, c, s)) : Con w mX12_second cX12_second 0 c s [.ref x] h (Ro (oI y) h1) := by
  unfold o_X12_second at H
  refine Con.of (ls := [some (va_rf (some x))]) (by decide +kernel) rfl rfl ?_
  refine V_iconst (v := -1) (by decide) eX12_second_0 ?_
  obtain ⟨rfl, rfl, rfl, rfl⟩ := zrt_ok H
  exact V_ireturn eX12_second_1 rfl ⟨rfl, rfl⟩
def o_X12_size (w : Wd) (F : Nat) (x : Nat) : M Int32 :=
  zrt (-1 : Int32)
theorem c_X12_size {w : Wd} {F : Nat} {x : Nat} {h h1 : Hp} {y : Int32} {c s : Nat} (H : o_X12_size w F x h = some (y, h1, c, s)) : Con w mX12_size cX12_size 0 c s [.ref x] h (Ro (oI y) h1) := by
  unfold o_X12_size at H
  refine Con.of (ls := [some (va_rf (some x))]) (by decide +kernel) rfl rfl ?_
  refine V_iconst (v := -1) (by decide) eX12_size_0 ?_
  obtain ⟨rfl, rfl, rfl, rfl⟩ := zrt_ok H
  exact V_ireturn eX12_size_1 rfl ⟨rfl, rfl⟩
theorem fq_X13_42_tI : FQ RX13 42 f_X3_number tI := by
  intro k j e
  unfold f_X3_number at e
  split at e
  · cases e; exact ⟨fl_X13_42_3, Or.inl rfl⟩
  · cases e
def o_X13_first (w : Wd) (F : Nat) (x : Nat) : M Int32 :=
  zbd (zgR f_X13_from (some x)) fun v1 =>
  zbd (zgI f_X3_number v1) fun v2 =>
  zrt v2
theorem c_X13_first {w : Wd} {F : Nat} {x : Nat} {h h1 : Hp} {y : Int32} {c s : Nat} (H : o_X13_first w F x h = some (y, h1, c, s)) : Con w mX13_first cX13_first 0 c s [.ref x] h (Ro (oI y) h1) := by
  unfold o_X13_first at H
  refine Con.of (ls := [some (va_rf (some x))]) (by decide +kernel) rfl rfl ?_
  refine V_aload0 eX13_first_0 (zrf_rf _) ?_
  refine D_gR eX13_first_1 fq_X13_25_tR H (fun v1 H => ?_)
  refine D_gI eX13_first_4 fq_X13_42_tI H (fun v2 H => ?_)
  obtain ⟨rfl, rfl, rfl, rfl⟩ := zrt_ok H
  exact V_ireturn eX13_first_7 rfl ⟨rfl, rfl⟩
theorem fq_X13_32_tI : FQ RX13 32 f_X13_gauge tI := by
  intro k j e
  unfold f_X13_gauge at e
  split at e
  · cases e; exact ⟨fl_X13_32_13, Or.inl rfl⟩
  · cases e; exact ⟨fl_X13_32_15, Or.inl rfl⟩
  · cases e; exact ⟨fl_X13_32_18, Or.inl rfl⟩
  · cases e
def o_X13_gauge (w : Wd) (F : Nat) (x : Nat) : M Int32 :=
  zbd (zgI f_X13_gauge (some x)) fun v1 =>
  zrt v1
theorem c_X13_gauge {w : Wd} {F : Nat} {x : Nat} {h h1 : Hp} {y : Int32} {c s : Nat} (H : o_X13_gauge w F x h = some (y, h1, c, s)) : Con w mX13_gauge cX13_gauge 0 c s [.ref x] h (Ro (oI y) h1) := by
  unfold o_X13_gauge at H
  refine Con.of (ls := [some (va_rf (some x))]) (by decide +kernel) rfl rfl ?_
  refine V_aload0 eX13_gauge_0 (zrf_rf _) ?_
  refine D_gI eX13_gauge_1 fq_X13_32_tI H (fun v1 H => ?_)
  obtain ⟨rfl, rfl, rfl, rfl⟩ := zrt_ok H
  exact V_ireturn eX13_gauge_4 rfl ⟨rfl, rfl⟩
def f_X13_fallen : Nat → Option Nat := fun k => match k with
  | 13 => some 8
  | 15 => some 8
  | 18 => some 8
  | _ => none
theorem fq_X13_47_tI : FQ RX13 47 f_X13_fallen tI := by
  intro k j e
  unfold f_X13_fallen at e
  split at e
  · cases e; exact ⟨fl_X13_47_13, Or.inr (Or.inl rfl)⟩
  · cases e; exact ⟨fl_X13_47_15, Or.inr (Or.inl rfl)⟩
  · cases e; exact ⟨fl_X13_47_18, Or.inr (Or.inl rfl)⟩
  · cases e
def o_X13_isDone (w : Wd) (F : Nat) (x : Nat) : M Int32 :=
  zbd (zgI f_X13_fallen (some x)) fun v1 =>
  zbd (zgd (v1 = 0 ∨ v1 = 1)) fun _ => zrt v1
theorem c_X13_isDone {w : Wd} {F : Nat} {x : Nat} {h h1 : Hp} {y : Int32} {c s : Nat} (H : o_X13_isDone w F x h = some (y, h1, c, s)) : Con w mX13_isDone cX13_isDone 0 c s [.ref x] h (Ro (oI y) h1) := by
  unfold o_X13_isDone at H
  refine Con.of (ls := [some (va_rf (some x))]) (by decide +kernel) rfl rfl ?_
  refine V_aload0 eX13_isDone_0 (zrf_rf _) ?_
  refine D_gI eX13_isDone_1 fq_X13_47_tI H (fun v1 H => ?_)
  obtain ⟨q, H⟩ := zgd_ok H
  obtain ⟨rfl, rfl, rfl, rfl⟩ := zrt_ok H
  exact V_zreturn eX13_isDone_4 rfl q ⟨rfl, rfl⟩
def o_X13_second (w : Wd) (F : Nat) (x : Nat) : M Int32 :=
  zbd (zgR f_X13_to (some x)) fun v1 =>
  zbd (zgI f_X3_number v1) fun v2 =>
  zrt v2
theorem c_X13_second {w : Wd} {F : Nat} {x : Nat} {h h1 : Hp} {y : Int32} {c s : Nat} (H : o_X13_second w F x h = some (y, h1, c, s)) : Con w mX13_second cX13_second 0 c s [.ref x] h (Ro (oI y) h1) := by
  unfold o_X13_second at H
  refine Con.of (ls := [some (va_rf (some x))]) (by decide +kernel) rfl rfl ?_
  refine V_aload0 eX13_second_0 (zrf_rf _) ?_
  refine D_gR eX13_second_1 fq_X13_29_tR H (fun v1 H => ?_)
  refine D_gI eX13_second_4 fq_X13_42_tI H (fun v2 H => ?_)
  obtain ⟨rfl, rfl, rfl, rfl⟩ := zrt_ok H
  exact V_ireturn eX13_second_7 rfl ⟨rfl, rfl⟩
def o_X13_size (w : Wd) (F : Nat) (x : Nat) : M Int32 :=
  zbd (zgI f_X13_shares (some x)) fun v1 =>
  zrt v1
theorem c_X13_size {w : Wd} {F : Nat} {x : Nat} {h h1 : Hp} {y : Int32} {c s : Nat} (H : o_X13_size w F x h = some (y, h1, c, s)) : Con w mX13_size cX13_size 0 c s [.ref x] h (Ro (oI y) h1) := by
  unfold o_X13_size at H
  refine Con.of (ls := [some (va_rf (some x))]) (by decide +kernel) rfl rfl ?_
  refine V_aload0 eX13_size_0 (zrf_rf _) ?_
  refine D_gI eX13_size_1 fq_X13_35_tI H (fun v1 H => ?_)
  obtain ⟨rfl, rfl, rfl, rfl⟩ := zrt_ok H
  exact V_ireturn eX13_size_4 rfl ⟨rfl, rfl⟩
def o_X14_size (w : Wd) (F : Nat) (x : Nat) : M Int32 :=
  zrt (-1 : Int32)
theorem c_X14_size {w : Wd} {F : Nat} {x : Nat} {h h1 : Hp} {y : Int32} {c s : Nat} (H : o_X14_size w F x h = some (y, h1, c, s)) : Con w mX14_size cX14_size 0 c s [.ref x] h (Ro (oI y) h1) := by
  unfold o_X14_size at H
  refine Con.of (ls := [some (va_rf (some x))]) (by decide +kernel) rfl rfl ?_
  refine V_iconst (v := -1) (by decide) eX14_size_0 ?_
  obtain ⟨rfl, rfl, rfl, rfl⟩ := zrt_ok H
  exact V_ireturn eX14_size_1 rfl ⟨rfl, rfl⟩
theorem fq_X15_22_tR : FQ RX15 22 f_X15_scheme tR := by
  intro k j e
  unfold f_X15_scheme at e
  split at e
  · cases e; exact ⟨fl_X15_22_15, Or.inl ⟨_, rfl⟩⟩
  · cases e; exact ⟨fl_X15_22_18, Or.inl ⟨_, rfl⟩⟩
  · cases e
def f_X13_number : Nat → Option Nat := fun k => match k with
  | 13 => some 0
  | 15 => some 0
  | 17 => some 0
  | 18 => some 0
  | 21 => some 0
  | 22 => some 0
  | _ => none
theorem fq_X15_26_tI : FQ RX15 26 f_X13_number tI := by
  intro k j e
  unfold f_X13_number at e
  split at e
  · cases e; exact ⟨fl_X15_26_13, Or.inl rfl⟩
  · cases e; exact ⟨fl_X15_26_15, Or.inl rfl⟩
  · cases e; exact ⟨fl_X15_26_17, Or.inl rfl⟩
  · cases e; exact ⟨fl_X15_26_18, Or.inl rfl⟩
  · cases e; exact ⟨fl_X15_26_21, Or.inl rfl⟩
  · cases e; exact ⟨fl_X15_26_22, Or.inl rfl⟩
  · cases e
def o_X15_of (w : Wd) (F : Nat) (x : Nat) : M Int32 :=
  zbd (zgR f_X15_scheme (some x)) fun v1 =>
  zbd (zgI f_X13_number v1) fun v2 =>
  zrt v2
theorem c_X15_of {w : Wd} {F : Nat} {x : Nat} {h h1 : Hp} {y : Int32} {c s : Nat} (H : o_X15_of w F x h = some (y, h1, c, s)) : Con w mX15_of cX15_of 0 c s [.ref x] h (Ro (oI y) h1) := by
  unfold o_X15_of at H
  refine Con.of (ls := [some (va_rf (some x))]) (by decide +kernel) rfl rfl ?_
  refine V_aload0 eX15_of_0 (zrf_rf _) ?_
  refine D_gR eX15_of_1 fq_X15_22_tR H (fun v1 H => ?_)
  refine D_gI eX15_of_4 fq_X15_26_tI H (fun v2 H => ?_)
  obtain ⟨rfl, rfl, rfl, rfl⟩ := zrt_ok H
  exact V_ireturn eX15_of_7 rfl ⟨rfl, rfl⟩
theorem fq_X17_7_tI : FQ RX17 7 f_X17_cell tI := by
  intro k j e
  unfold f_X17_cell at e
  split at e
  · cases e; exact ⟨fl_X17_7_17, Or.inl rfl⟩
  · cases e
def o_X17_first (w : Wd) (F : Nat) (x : Nat) : M Int32 :=
  zbd (zgI f_X17_cell (some x)) fun v1 =>
  zrt v1
theorem c_X17_first {w : Wd} {F : Nat} {x : Nat} {h h1 : Hp} {y : Int32} {c s : Nat} (H : o_X17_first w F x h = some (y, h1, c, s)) : Con w mX17_first cX17_first 0 c s [.ref x] h (Ro (oI y) h1) := by
  unfold o_X17_first at H
  refine Con.of (ls := [some (va_rf (some x))]) (by decide +kernel) rfl rfl ?_
  refine V_aload0 eX17_first_0 (zrf_rf _) ?_
  refine D_gI eX17_first_1 fq_X17_7_tI H (fun v1 H => ?_)
  obtain ⟨rfl, rfl, rfl, rfl⟩ := zrt_ok H
  exact V_ireturn eX17_first_4 rfl ⟨rfl, rfl⟩
def o_X17_size (w : Wd) (F : Nat) (x : Nat) : M Int32 :=
  zbd (zgI f_X17_coins (some x)) fun v1 =>
  zrt v1
theorem c_X17_size {w : Wd} {F : Nat} {x : Nat} {h h1 : Hp} {y : Int32} {c s : Nat} (H : o_X17_size w F x h = some (y, h1, c, s)) : Con w mX17_size cX17_size 0 c s [.ref x] h (Ro (oI y) h1) := by
  unfold o_X17_size at H
  refine Con.of (ls := [some (va_rf (some x))]) (by decide +kernel) rfl rfl ?_
  refine V_aload0 eX17_size_0 (zrf_rf _) ?_
  refine D_gI eX17_size_1 fq_X17_13_tI H (fun v1 H => ?_)
  obtain ⟨rfl, rfl, rfl, rfl⟩ := zrt_ok H
  exact V_ireturn eX17_size_4 rfl ⟨rfl, rfl⟩
theorem fq_X18_32_tI : FQ RX18 32 f_X18_granted tI := by
  intro k j e
  unfold f_X18_granted at e
  split at e
  · cases e; exact ⟨fl_X18_32_18, Or.inr (Or.inl rfl)⟩
  · cases e
def o_X18_isDone (w : Wd) (F : Nat) (x : Nat) : M Int32 :=
  zbd (zgI f_X18_granted (some x)) fun v1 =>
  zbd (zgd (v1 = 0 ∨ v1 = 1)) fun _ => zrt v1
theorem c_X18_isDone {w : Wd} {F : Nat} {x : Nat} {h h1 : Hp} {y : Int32} {c s : Nat} (H : o_X18_isDone w F x h = some (y, h1, c, s)) : Con w mX18_isDone cX18_isDone 0 c s [.ref x] h (Ro (oI y) h1) := by
  unfold o_X18_isDone at H
  refine Con.of (ls := [some (va_rf (some x))]) (by decide +kernel) rfl rfl ?_
  refine V_aload0 eX18_isDone_0 (zrf_rf _) ?_
  refine D_gI eX18_isDone_1 fq_X18_32_tI H (fun v1 H => ?_)
  obtain ⟨q, H⟩ := zgd_ok H
  obtain ⟨rfl, rfl, rfl, rfl⟩ := zrt_ok H
  exact V_zreturn eX18_isDone_4 rfl q ⟨rfl, rfl⟩
def f_X15_number : Nat → Option Nat := fun k => match k with
  | 13 => some 0
  | 15 => some 0
  | 17 => some 0
  | 18 => some 0
  | 21 => some 0
  | 22 => some 0
  | _ => none
theorem fq_X18_25_tI : FQ RX18 25 f_X15_number tI := by
  intro k j e
  unfold f_X15_number at e
  split at e
  · cases e; exact ⟨fl_X18_25_13, Or.inl rfl⟩
  · cases e; exact ⟨fl_X18_25_15, Or.inl rfl⟩
  · cases e; exact ⟨fl_X18_25_17, Or.inl rfl⟩
  · cases e; exact ⟨fl_X18_25_18, Or.inl rfl⟩
  · cases e; exact ⟨fl_X18_25_21, Or.inl rfl⟩
  · cases e; exact ⟨fl_X18_25_22, Or.inl rfl⟩
  · cases e
def o_X18_of (w : Wd) (F : Nat) (x : Nat) : M Int32 :=
  zbd (zgR f_X18_plan (some x)) fun v1 =>
  zbd (zgI f_X15_number v1) fun v2 =>
  zrt v2
theorem c_X18_of {w : Wd} {F : Nat} {x : Nat} {h h1 : Hp} {y : Int32} {c s : Nat} (H : o_X18_of w F x h = some (y, h1, c, s)) : Con w mX18_of cX18_of 0 c s [.ref x] h (Ro (oI y) h1) := by
  unfold o_X18_of at H
  refine Con.of (ls := [some (va_rf (some x))]) (by decide +kernel) rfl rfl ?_
  refine V_aload0 eX18_of_0 (zrf_rf _) ?_
  refine D_gR eX18_of_1 fq_X18_21_tR H (fun v1 H => ?_)
  refine D_gI eX18_of_4 fq_X18_25_tI H (fun v2 H => ?_)
  obtain ⟨rfl, rfl, rfl, rfl⟩ := zrt_ok H
  exact V_ireturn eX18_of_7 rfl ⟨rfl, rfl⟩
def f_X21_settled : Nat → Option Nat := fun k => match k with
  | 21 => some 4
  | 22 => some 4
  | _ => none
theorem fq_X21_30_tI : FQ RX21 30 f_X21_settled tI := by
  intro k j e
  unfold f_X21_settled at e
  split at e
  · cases e; exact ⟨fl_X21_30_21, Or.inr (Or.inl rfl)⟩
  · cases e; exact ⟨fl_X21_30_22, Or.inr (Or.inl rfl)⟩
  · cases e
def o_X21_isDone (w : Wd) (F : Nat) (x : Nat) : M Int32 :=
  zbd (zgI f_X21_settled (some x)) fun v1 =>
  zbd (zgd (v1 = 0 ∨ v1 = 1)) fun _ => zrt v1
theorem c_X21_isDone {w : Wd} {F : Nat} {x : Nat} {h h1 : Hp} {y : Int32} {c s : Nat} (H : o_X21_isDone w F x h = some (y, h1, c, s)) : Con w mX21_isDone cX21_isDone 0 c s [.ref x] h (Ro (oI y) h1) := by
  unfold o_X21_isDone at H
  refine Con.of (ls := [some (va_rf (some x))]) (by decide +kernel) rfl rfl ?_
  refine V_aload0 eX21_isDone_0 (zrf_rf _) ?_
  refine D_gI eX21_isDone_1 fq_X21_30_tI H (fun v1 H => ?_)
  obtain ⟨q, H⟩ := zgd_ok H
  obtain ⟨rfl, rfl, rfl, rfl⟩ := zrt_ok H
  exact V_zreturn eX21_isDone_4 rfl q ⟨rfl, rfl⟩
def f_X21_scheme : Nat → Option Nat := fun k => match k with
  | 21 => some 2
  | 22 => some 2
  | _ => none
theorem fq_X21_7_tR : FQ RX21 7 f_X21_scheme tR := by
  intro k j e
  unfold f_X21_scheme at e
  split at e
  · cases e; exact ⟨fl_X21_7_21, Or.inl ⟨_, rfl⟩⟩
  · cases e; exact ⟨fl_X21_7_22, Or.inl ⟨_, rfl⟩⟩
  · cases e
theorem fq_X21_25_tI : FQ RX21 25 f_X13_number tI := by
  intro k j e
  unfold f_X13_number at e
  split at e
  · cases e; exact ⟨fl_X21_25_13, Or.inl rfl⟩
  · cases e; exact ⟨fl_X21_25_15, Or.inl rfl⟩
  · cases e; exact ⟨fl_X21_25_17, Or.inl rfl⟩
  · cases e; exact ⟨fl_X21_25_18, Or.inl rfl⟩
  · cases e; exact ⟨fl_X21_25_21, Or.inl rfl⟩
  · cases e; exact ⟨fl_X21_25_22, Or.inl rfl⟩
  · cases e
def o_X21_of (w : Wd) (F : Nat) (x : Nat) : M Int32 :=
  zbd (zgR f_X21_scheme (some x)) fun v1 =>
  zbd (zgI f_X13_number v1) fun v2 =>
  zrt v2
theorem c_X21_of {w : Wd} {F : Nat} {x : Nat} {h h1 : Hp} {y : Int32} {c s : Nat} (H : o_X21_of w F x h = some (y, h1, c, s)) : Con w mX21_of cX21_of 0 c s [.ref x] h (Ro (oI y) h1) := by
  unfold o_X21_of at H
  refine Con.of (ls := [some (va_rf (some x))]) (by decide +kernel) rfl rfl ?_
  refine V_aload0 eX21_of_0 (zrf_rf _) ?_
  refine D_gR eX21_of_1 fq_X21_7_tR H (fun v1 H => ?_)
  refine D_gI eX21_of_4 fq_X21_25_tI H (fun v2 H => ?_)
  obtain ⟨rfl, rfl, rfl, rfl⟩ := zrt_ok H
  exact V_ireturn eX21_of_7 rfl ⟨rfl, rfl⟩
def o_X21_size (w : Wd) (F : Nat) (x : Nat) : M Int32 :=
  zbd (zgI f_X21_pence (some x)) fun v1 =>
  zrt v1
theorem c_X21_size {w : Wd} {F : Nat} {x : Nat} {h h1 : Hp} {y : Int32} {c s : Nat} (H : o_X21_size w F x h = some (y, h1, c, s)) : Con w mX21_size cX21_size 0 c s [.ref x] h (Ro (oI y) h1) := by
  unfold o_X21_size at H
  refine Con.of (ls := [some (va_rf (some x))]) (by decide +kernel) rfl rfl ?_
  refine V_aload0 eX21_size_0 (zrf_rf _) ?_
  refine D_gI eX21_size_1 fq_X21_13_tI H (fun v1 H => ?_)
  obtain ⟨rfl, rfl, rfl, rfl⟩ := zrt_ok H
  exact V_ireturn eX21_size_4 rfl ⟨rfl, rfl⟩
def f_X22_holder : Nat → Option Nat := fun k => match k with
  | 22 => some 5
  | _ => none
theorem fq_X22_7_tI : FQ RX22 7 f_X22_holder tI := by
  intro k j e
  unfold f_X22_holder at e
  split at e
  · cases e; exact ⟨fl_X22_7_22, Or.inl rfl⟩
  · cases e
def o_X22_first (w : Wd) (F : Nat) (x : Nat) : M Int32 :=
  zbd (zgI f_X22_holder (some x)) fun v1 =>
  zrt v1
theorem c_X22_first {w : Wd} {F : Nat} {x : Nat} {h h1 : Hp} {y : Int32} {c s : Nat} (H : o_X22_first w F x h = some (y, h1, c, s)) : Con w mX22_first cX22_first 0 c s [.ref x] h (Ro (oI y) h1) := by
  unfold o_X22_first at H
  refine Con.of (ls := [some (va_rf (some x))]) (by decide +kernel) rfl rfl ?_
  refine V_aload0 eX22_first_0 (zrf_rf _) ?_
  refine D_gI eX22_first_1 fq_X22_7_tI H (fun v1 H => ?_)
  obtain ⟨rfl, rfl, rfl, rfl⟩ := zrt_ok H
  exact V_ireturn eX22_first_4 rfl ⟨rfl, rfl⟩
def t_X12_of (w : Wd) (F : Nat) : Nat → Option (Nat → M Int32) := fun k => match k with
  | 13 => some (fun a => o_X12_of w F a)
  | 15 => some (fun a => o_X15_of w F a)
  | 17 => some (fun a => o_X12_of w F a)
  | 18 => some (fun a => o_X18_of w F a)
  | 21 => some (fun a => o_X21_of w F a)
  | 22 => some (fun a => o_X21_of w F a)
  | _ => none
theorem t_X12_of_ok {w : Wd} {F : Nat} {k : Nat} {f : Nat → M Int32} (e : t_X12_of w F k = some f) : (k = 13 ∧ f = fun a => o_X12_of w F a) ∨ (k = 15 ∧ f = fun a => o_X15_of w F a) ∨ (k = 17 ∧ f = fun a => o_X12_of w F a) ∨ (k = 18 ∧ f = fun a => o_X18_of w F a) ∨ (k = 21 ∧ f = fun a => o_X21_of w F a) ∨ (k = 22 ∧ f = fun a => o_X21_of w F a) := by
  unfold t_X12_of at e
  split at e
  · cases e; exact Or.inl ⟨rfl, rfl⟩
  · cases e; exact Or.inr (Or.inl ⟨rfl, rfl⟩)
  · cases e; exact Or.inr (Or.inr (Or.inl ⟨rfl, rfl⟩))
  · cases e; exact Or.inr (Or.inr (Or.inr (Or.inl ⟨rfl, rfl⟩)))
  · cases e; exact Or.inr (Or.inr (Or.inr (Or.inr (Or.inl ⟨rfl, rfl⟩))))
  · cases e; exact Or.inr (Or.inr (Or.inr (Or.inr (Or.inr (⟨rfl, rfl⟩)))))
  · cases e
theorem fq_X0_364_tI : FQ RX0 364 f_X12_day tI := by
  intro k j e
  unfold f_X12_day at e
  split at e
  · cases e; exact ⟨fl_X0_364_13, Or.inl rfl⟩
  · cases e; exact ⟨fl_X0_364_15, Or.inl rfl⟩
  · cases e; exact ⟨fl_X0_364_17, Or.inl rfl⟩
  · cases e; exact ⟨fl_X0_364_18, Or.inl rfl⟩
  · cases e; exact ⟨fl_X0_364_21, Or.inl rfl⟩
  · cases e; exact ⟨fl_X0_364_22, Or.inl rfl⟩
  · cases e
def t_X12_first (w : Wd) (F : Nat) : Nat → Option (Nat → M Int32) := fun k => match k with
  | 13 => some (fun a => o_X13_first w F a)
  | 15 => some (fun a => o_X13_first w F a)
  | 17 => some (fun a => o_X17_first w F a)
  | 18 => some (fun a => o_X13_first w F a)
  | 21 => some (fun a => o_X12_first w F a)
  | 22 => some (fun a => o_X22_first w F a)
  | _ => none
theorem t_X12_first_ok {w : Wd} {F : Nat} {k : Nat} {f : Nat → M Int32} (e : t_X12_first w F k = some f) : (k = 13 ∧ f = fun a => o_X13_first w F a) ∨ (k = 15 ∧ f = fun a => o_X13_first w F a) ∨ (k = 17 ∧ f = fun a => o_X17_first w F a) ∨ (k = 18 ∧ f = fun a => o_X13_first w F a) ∨ (k = 21 ∧ f = fun a => o_X12_first w F a) ∨ (k = 22 ∧ f = fun a => o_X22_first w F a) := by
  unfold t_X12_first at e
  split at e
  · cases e; exact Or.inl ⟨rfl, rfl⟩
  · cases e; exact Or.inr (Or.inl ⟨rfl, rfl⟩)
  · cases e; exact Or.inr (Or.inr (Or.inl ⟨rfl, rfl⟩))
  · cases e; exact Or.inr (Or.inr (Or.inr (Or.inl ⟨rfl, rfl⟩)))
  · cases e; exact Or.inr (Or.inr (Or.inr (Or.inr (Or.inl ⟨rfl, rfl⟩))))
  · cases e; exact Or.inr (Or.inr (Or.inr (Or.inr (Or.inr (⟨rfl, rfl⟩)))))
  · cases e
def t_X12_second (w : Wd) (F : Nat) : Nat → Option (Nat → M Int32) := fun k => match k with
  | 13 => some (fun a => o_X13_second w F a)
  | 15 => some (fun a => o_X13_second w F a)
  | 17 => some (fun a => o_X12_second w F a)
  | 18 => some (fun a => o_X13_second w F a)
  | 21 => some (fun a => o_X12_second w F a)
  | 22 => some (fun a => o_X12_second w F a)
  | _ => none
theorem t_X12_second_ok {w : Wd} {F : Nat} {k : Nat} {f : Nat → M Int32} (e : t_X12_second w F k = some f) : (k = 13 ∧ f = fun a => o_X13_second w F a) ∨ (k = 15 ∧ f = fun a => o_X13_second w F a) ∨ (k = 17 ∧ f = fun a => o_X12_second w F a) ∨ (k = 18 ∧ f = fun a => o_X13_second w F a) ∨ (k = 21 ∧ f = fun a => o_X12_second w F a) ∨ (k = 22 ∧ f = fun a => o_X12_second w F a) := by
  unfold t_X12_second at e
  split at e
  · cases e; exact Or.inl ⟨rfl, rfl⟩
  · cases e; exact Or.inr (Or.inl ⟨rfl, rfl⟩)
  · cases e; exact Or.inr (Or.inr (Or.inl ⟨rfl, rfl⟩))
  · cases e; exact Or.inr (Or.inr (Or.inr (Or.inl ⟨rfl, rfl⟩)))
  · cases e; exact Or.inr (Or.inr (Or.inr (Or.inr (Or.inl ⟨rfl, rfl⟩))))
  · cases e; exact Or.inr (Or.inr (Or.inr (Or.inr (Or.inr (⟨rfl, rfl⟩)))))
  · cases e
def t_X12_gauge (w : Wd) (F : Nat) : Nat → Option (Nat → M Int32) := fun k => match k with
  | 13 => some (fun a => o_X13_gauge w F a)
  | 15 => some (fun a => o_X13_gauge w F a)
  | 17 => some (fun a => o_X12_gauge w F a)
  | 18 => some (fun a => o_X13_gauge w F a)
  | 21 => some (fun a => o_X12_gauge w F a)
  | 22 => some (fun a => o_X12_gauge w F a)
  | _ => none
theorem t_X12_gauge_ok {w : Wd} {F : Nat} {k : Nat} {f : Nat → M Int32} (e : t_X12_gauge w F k = some f) : (k = 13 ∧ f = fun a => o_X13_gauge w F a) ∨ (k = 15 ∧ f = fun a => o_X13_gauge w F a) ∨ (k = 17 ∧ f = fun a => o_X12_gauge w F a) ∨ (k = 18 ∧ f = fun a => o_X13_gauge w F a) ∨ (k = 21 ∧ f = fun a => o_X12_gauge w F a) ∨ (k = 22 ∧ f = fun a => o_X12_gauge w F a) := by
  unfold t_X12_gauge at e
  split at e
  · cases e; exact Or.inl ⟨rfl, rfl⟩
  · cases e; exact Or.inr (Or.inl ⟨rfl, rfl⟩)
  · cases e; exact Or.inr (Or.inr (Or.inl ⟨rfl, rfl⟩))
  · cases e; exact Or.inr (Or.inr (Or.inr (Or.inl ⟨rfl, rfl⟩)))
  · cases e; exact Or.inr (Or.inr (Or.inr (Or.inr (Or.inl ⟨rfl, rfl⟩))))
  · cases e; exact Or.inr (Or.inr (Or.inr (Or.inr (Or.inr (⟨rfl, rfl⟩)))))
  · cases e
def t_X12_size (w : Wd) (F : Nat) : Nat → Option (Nat → M Int32) := fun k => match k with
  | 13 => some (fun a => o_X13_size w F a)
  | 15 => some (fun a => o_X14_size w F a)
  | 17 => some (fun a => o_X17_size w F a)
  | 18 => some (fun a => o_X14_size w F a)
  | 21 => some (fun a => o_X21_size w F a)
  | 22 => some (fun a => o_X21_size w F a)
  | _ => none
theorem t_X12_size_ok {w : Wd} {F : Nat} {k : Nat} {f : Nat → M Int32} (e : t_X12_size w F k = some f) : (k = 13 ∧ f = fun a => o_X13_size w F a) ∨ (k = 15 ∧ f = fun a => o_X14_size w F a) ∨ (k = 17 ∧ f = fun a => o_X17_size w F a) ∨ (k = 18 ∧ f = fun a => o_X14_size w F a) ∨ (k = 21 ∧ f = fun a => o_X21_size w F a) ∨ (k = 22 ∧ f = fun a => o_X21_size w F a) := by
  unfold t_X12_size at e
  split at e
  · cases e; exact Or.inl ⟨rfl, rfl⟩
  · cases e; exact Or.inr (Or.inl ⟨rfl, rfl⟩)
  · cases e; exact Or.inr (Or.inr (Or.inl ⟨rfl, rfl⟩))
  · cases e; exact Or.inr (Or.inr (Or.inr (Or.inl ⟨rfl, rfl⟩)))
  · cases e; exact Or.inr (Or.inr (Or.inr (Or.inr (Or.inl ⟨rfl, rfl⟩))))
  · cases e; exact Or.inr (Or.inr (Or.inr (Or.inr (Or.inr (⟨rfl, rfl⟩)))))
  · cases e
def t_X12_isDone (w : Wd) (F : Nat) : Nat → Option (Nat → M Int32) := fun k => match k with
  | 13 => some (fun a => o_X13_isDone w F a)
  | 15 => some (fun a => o_X13_isDone w F a)
  | 17 => some (fun a => o_X12_isDone w F a)
  | 18 => some (fun a => o_X18_isDone w F a)
  | 21 => some (fun a => o_X21_isDone w F a)
  | 22 => some (fun a => o_X21_isDone w F a)
  | _ => none
theorem t_X12_isDone_ok {w : Wd} {F : Nat} {k : Nat} {f : Nat → M Int32} (e : t_X12_isDone w F k = some f) : (k = 13 ∧ f = fun a => o_X13_isDone w F a) ∨ (k = 15 ∧ f = fun a => o_X13_isDone w F a) ∨ (k = 17 ∧ f = fun a => o_X12_isDone w F a) ∨ (k = 18 ∧ f = fun a => o_X18_isDone w F a) ∨ (k = 21 ∧ f = fun a => o_X21_isDone w F a) ∨ (k = 22 ∧ f = fun a => o_X21_isDone w F a) := by
  unfold t_X12_isDone at e
  split at e
  · cases e; exact Or.inl ⟨rfl, rfl⟩
  · cases e; exact Or.inr (Or.inl ⟨rfl, rfl⟩)
  · cases e; exact Or.inr (Or.inr (Or.inl ⟨rfl, rfl⟩))
  · cases e; exact Or.inr (Or.inr (Or.inr (Or.inl ⟨rfl, rfl⟩)))
  · cases e; exact Or.inr (Or.inr (Or.inr (Or.inr (Or.inl ⟨rfl, rfl⟩))))
  · cases e; exact Or.inr (Or.inr (Or.inr (Or.inr (Or.inr (⟨rfl, rfl⟩)))))
  · cases e
def d_X0_about_107 (w : Wd) (F : Nat) (s0 : Int32) : M Int32 :=
  zrt s0
def o_X0_about (w : Wd) (F : Nat) (x : Nat) (a1 : Int32) (a2 : Int32) : M Int32 :=
  zbd (zv1 0 (some x) (fun a => o_X0_paperAt w F a a1)) fun v1 =>
  zif (v1 = none) (zrt (-1 : Int32))
  (zif (a2 = (0 : Int32)) (zbd (zvn (t_X12_kind w F) v1) fun v2 =>
  zrt v2)
  (zif (a2 = (1 : Int32)) (zbd (zvn (t_X12_of w F) v1) fun v3 =>
  zrt v3)
  (zif (a2 = (2 : Int32)) (zbd (zgI f_X12_day v1) fun v4 =>
  zrt v4)
  (zif (a2 = (3 : Int32)) (zbd (zvn (t_X12_first w F) v1) fun v5 =>
  zrt v5)
  (zif (a2 = (4 : Int32)) (zbd (zvn (t_X12_second w F) v1) fun v6 =>
  zrt v6)
  (zif (a2 = (5 : Int32)) (zbd (zvn (t_X12_gauge w F) v1) fun v7 =>
  zrt v7)
  (zif (a2 = (6 : Int32)) (zbd (zvn (t_X12_size w F) v1) fun v8 =>
  zrt v8)
  (zif (a2 = (7 : Int32)) (zbd (zvn (t_X12_isDone w F) v1) fun v9 =>
  zif (v9 = 0) (d_X0_about_107 w F (0 : Int32))
  (d_X0_about_107 w F (1 : Int32)))
  (zrt (-1 : Int32))))))))))
theorem b_X0_about_107 {w : Wd} {F : Nat} {s0 : Int32} {h h1 : Hp} {y : Int32} {c s : Nat} (H : d_X0_about_107 w F s0 h = some (y, h1, c, s)) : V w mX0_about cX0_about 4 c s h 107 [none, none, none, none] [.int s0] (Ro (oI y) h1) := by
  unfold d_X0_about_107 at H
  obtain ⟨rfl, rfl, rfl, rfl⟩ := zrt_ok H
  exact V_ireturn eX0_about_107 rfl ⟨rfl, rfl⟩
theorem c_X0_about {w : Wd} {F : Nat} {x : Nat} {a1 : Int32} {a2 : Int32} {h h1 : Hp} {y : Int32} {c s : Nat} (H : o_X0_about w F x a1 a2 h = some (y, h1, c, s)) : Con w mX0_about cX0_about 4 c s [.ref x, .int a1, .int a2] h (Ro (oI y) h1) := by
  unfold o_X0_about at H
  refine Con.of (ls := [some (va_rf (some x)), some (.int a1), some (.int a2), none]) (by decide +kernel) rfl rfl ?_
  refine V_aload0 eX0_about_0 (zrf_rf _) ?_
  refine V_iload1 eX0_about_1 ?_
  refine D_callR (pc' := 5) (st := []) H (fun v h' c1 s1 e cb sb k => ?_) (fun v1 h c s H => ?_)
  · obtain ⟨a, hr, ha, hk, e9⟩ := zv1_ok e
    cases hr
    exact V_invokevirtual (k := 0) eX0_about_2 lmX0_paperAt q806 q808 rfl rfl qs22 ha hk (c_X0_paperAt e9) (hRet_oR _ _) rfl rfl rfl rfl (kOR k)
  refine V_astore3 rfl eX0_about_5 rfl (zrf_rf _) ?_
  refine V_aload3 eX0_about_6 (zrf_rf _) ?_
  refine V_ifnonnull eX0_about_7 (fun a q => ?_) (fun q => ?_)
  · have H := zif_f (zsn q) H
    refine V_iload2 eX0_about_12 ?_
    refine V_tableswitch eX0_about_13 (fun i t e1 e2 => ?_) (fun q => ?_)
    · rcases (show i = 0 ∨ i = 1 ∨ i = 2 ∨ i = 3 ∨ i = 4 ∨ i = 5 ∨ i = 6 ∨ i = 7 ∨ 8 ≤ i by omega) with rfl | rfl | rfl | rfl | rfl | rfl | rfl | rfl | hlt
      · cases (show some 60 = some t from e1)
        have q : a2 = (0 : Int32) := Int32.toInt_inj.mp (e2.trans (by decide))
        have H := zif_t q H
        refine V_aload3 eX0_about_60 (zrf_rf _) ?_
        refine D_callI (pc' := 64) (st := []) H (fun v h' c1 s1 e cb sb k => ?_) (fun v2 h c s H => ?_)
        · obtain ⟨a, f, hr, ha, ht, e9⟩ := zvn_ok e
          cases hr
          rcases t_X12_kind_ok ht with ⟨hk, hf⟩ | ⟨hk, hf⟩ | ⟨hk, hf⟩ | ⟨hk, hf⟩ | ⟨hk, hf⟩ | ⟨hk, hf⟩
          · subst hf; exact V_invokevirtualU (k := 13) eX0_about_61 lmX13_kind (⟨"LinesPromised$Paper", q1180, q1130, q1144, q812, q125, ⟨by decide, by decide⟩, rfl, Or.inr (Or.inr q1129)⟩) (by decide) ha hk (c_X13_kind e9) (hRet_oI _ _) rfl rfl rfl rfl (kOI k)
          · subst hf; exact V_invokevirtualU (k := 15) eX0_about_61 lmX15_kind (⟨"LinesPromised$Paper", q1180, q1130, q1143, q819, q127, ⟨by decide, by decide⟩, rfl, Or.inr (Or.inr q1129)⟩) (by decide) ha hk (c_X15_kind e9) (hRet_oI _ _) rfl rfl rfl rfl (kOI k)
          · subst hf; exact V_invokevirtualU (k := 17) eX0_about_61 lmX17_kind (⟨"LinesPromised$Paper", q1180, q1130, q1135, q1136, q129, ⟨by decide, by decide⟩, rfl, Or.inr (Or.inr q1129)⟩) (by decide) ha hk (c_X17_kind e9) (hRet_oI _ _) rfl rfl rfl rfl (kOI k)
          · subst hf; exact V_invokevirtualU (k := 18) eX0_about_61 lmX18_kind (⟨"LinesPromised$Paper", q1180, q1130, q1131, q816, q130, ⟨by decide, by decide⟩, rfl, Or.inr (Or.inr q1129)⟩) (by decide) ha hk (c_X18_kind e9) (hRet_oI _ _) rfl rfl rfl rfl (kOI k)
          · subst hf; exact V_invokevirtualU (k := 21) eX0_about_61 lmX21_kind (⟨"LinesPromised$Paper", q1180, q1130, q1132, q1133, q133, ⟨by decide, by decide⟩, rfl, Or.inr (Or.inr q1129)⟩) (by decide) ha hk (c_X21_kind e9) (hRet_oI _ _) rfl rfl rfl rfl (kOI k)
          · subst hf; exact V_invokevirtualU (k := 22) eX0_about_61 lmX22_kind (⟨"LinesPromised$Paper", q1180, q1130, q1138, q1139, q134, ⟨by decide, by decide⟩, rfl, Or.inr (Or.inr q1129)⟩) (by decide) ha hk (c_X22_kind e9) (hRet_oI _ _) rfl rfl rfl rfl (kOI k)
        obtain ⟨rfl, rfl, rfl, rfl⟩ := zrt_ok H
        exact V_ireturn eX0_about_64 rfl ⟨rfl, rfl⟩
      · cases (show some 65 = some t from e1)
        have q : a2 = (1 : Int32) := Int32.toInt_inj.mp (e2.trans (by decide))
        have H := zif_f (show ¬ a2 = (0 : Int32) from fun z => absurd (q.symm.trans z) (by decide)) H
        have H := zif_t q H
        refine V_aload3 eX0_about_65 (zrf_rf _) ?_
        refine D_callI (pc' := 69) (st := []) H (fun v h' c1 s1 e cb sb k => ?_) (fun v3 h c s H => ?_)
        · obtain ⟨a, f, hr, ha, ht, e9⟩ := zvn_ok e
          cases hr
          rcases t_X12_of_ok ht with ⟨hk, hf⟩ | ⟨hk, hf⟩ | ⟨hk, hf⟩ | ⟨hk, hf⟩ | ⟨hk, hf⟩ | ⟨hk, hf⟩
          · subst hf; exact V_invokevirtualU (k := 13) eX0_about_66 lmX12_of (⟨"LinesPromised$Paper", q1181, q1183, q1195, q1182, q124, ⟨by decide, by decide⟩, rfl, Or.inl rfl⟩) (by decide) ha hk (c_X12_of e9) (hRet_oI _ _) rfl rfl rfl rfl (kOI k)
          · subst hf; exact V_invokevirtualU (k := 15) eX0_about_66 lmX15_of (⟨"LinesPromised$Paper", q1181, q1183, q1192, q1193, q127, ⟨by decide, by decide⟩, rfl, Or.inr (Or.inl ⟨q1182, _, _, _, q1196⟩)⟩) (by decide) ha hk (c_X15_of e9) (hRet_oI _ _) rfl rfl rfl rfl (kOI k)
          · subst hf; exact V_invokevirtualU (k := 17) eX0_about_66 lmX12_of (⟨"LinesPromised$Paper", q1181, q1183, q1190, q1182, q124, ⟨by decide, by decide⟩, rfl, Or.inl rfl⟩) (by decide) ha hk (c_X12_of e9) (hRet_oI _ _) rfl rfl rfl rfl (kOI k)
          · subst hf; exact V_invokevirtualU (k := 18) eX0_about_66 lmX18_of (⟨"LinesPromised$Paper", q1181, q1183, q1184, q1185, q130, ⟨by decide, by decide⟩, rfl, Or.inr (Or.inl ⟨q1182, _, _, _, q1196⟩)⟩) (by decide) ha hk (c_X18_of e9) (hRet_oI _ _) rfl rfl rfl rfl (kOI k)
          · subst hf; exact V_invokevirtualU (k := 21) eX0_about_66 lmX21_of (⟨"LinesPromised$Paper", q1181, q1183, q1187, q1188, q133, ⟨by decide, by decide⟩, rfl, Or.inr (Or.inl ⟨q1182, _, _, _, q1196⟩)⟩) (by decide) ha hk (c_X21_of e9) (hRet_oI _ _) rfl rfl rfl rfl (kOI k)
          · subst hf; exact V_invokevirtualU (k := 22) eX0_about_66 lmX21_of (⟨"LinesPromised$Paper", q1181, q1183, q1191, q1188, q133, ⟨by decide, by decide⟩, rfl, Or.inr (Or.inl ⟨q1182, _, _, _, q1196⟩)⟩) (by decide) ha hk (c_X21_of e9) (hRet_oI _ _) rfl rfl rfl rfl (kOI k)
        obtain ⟨rfl, rfl, rfl, rfl⟩ := zrt_ok H
        exact V_ireturn eX0_about_69 rfl ⟨rfl, rfl⟩
      · cases (show some 70 = some t from e1)
        have q : a2 = (2 : Int32) := Int32.toInt_inj.mp (e2.trans (by decide))
        have H := zif_f (show ¬ a2 = (0 : Int32) from fun z => absurd (q.symm.trans z) (by decide)) H
        have H := zif_f (show ¬ a2 = (1 : Int32) from fun z => absurd (q.symm.trans z) (by decide)) H
        have H := zif_t q H
        refine V_aload3 eX0_about_70 (zrf_rf _) ?_
        refine D_gI eX0_about_71 fq_X0_364_tI H (fun v4 H => ?_)
        obtain ⟨rfl, rfl, rfl, rfl⟩ := zrt_ok H
        exact V_ireturn eX0_about_74 rfl ⟨rfl, rfl⟩
      · cases (show some 75 = some t from e1)
        have q : a2 = (3 : Int32) := Int32.toInt_inj.mp (e2.trans (by decide))
        have H := zif_f (show ¬ a2 = (0 : Int32) from fun z => absurd (q.symm.trans z) (by decide)) H
        have H := zif_f (show ¬ a2 = (1 : Int32) from fun z => absurd (q.symm.trans z) (by decide)) H
        have H := zif_f (show ¬ a2 = (2 : Int32) from fun z => absurd (q.symm.trans z) (by decide)) H
        have H := zif_t q H
        refine V_aload3 eX0_about_75 (zrf_rf _) ?_
        refine D_callI (pc' := 79) (st := []) H (fun v h' c1 s1 e cb sb k => ?_) (fun v5 h c s H => ?_)
        · obtain ⟨a, f, hr, ha, ht, e9⟩ := zvn_ok e
          cases hr
          rcases t_X12_first_ok ht with ⟨hk, hf⟩ | ⟨hk, hf⟩ | ⟨hk, hf⟩ | ⟨hk, hf⟩ | ⟨hk, hf⟩ | ⟨hk, hf⟩
          · subst hf; exact V_invokevirtualU (k := 13) eX0_about_76 lmX13_first (⟨"LinesPromised$Paper", q1197, q1199, q1211, q1201, q125, ⟨by decide, by decide⟩, rfl, Or.inr (Or.inl ⟨q1198, _, _, _, q1212⟩)⟩) (by decide) ha hk (c_X13_first e9) (hRet_oI _ _) rfl rfl rfl rfl (kOI k)
          · subst hf; exact V_invokevirtualU (k := 15) eX0_about_76 lmX13_first (⟨"LinesPromised$Paper", q1197, q1199, q1210, q1201, q125, ⟨by decide, by decide⟩, rfl, Or.inr (Or.inl ⟨q1198, _, _, _, q1212⟩)⟩) (by decide) ha hk (c_X13_first e9) (hRet_oI _ _) rfl rfl rfl rfl (kOI k)
          · subst hf; exact V_invokevirtualU (k := 17) eX0_about_76 lmX17_first (⟨"LinesPromised$Paper", q1197, q1199, q1204, q1205, q129, ⟨by decide, by decide⟩, rfl, Or.inr (Or.inl ⟨q1198, _, _, _, q1212⟩)⟩) (by decide) ha hk (c_X17_first e9) (hRet_oI _ _) rfl rfl rfl rfl (kOI k)
          · subst hf; exact V_invokevirtualU (k := 18) eX0_about_76 lmX13_first (⟨"LinesPromised$Paper", q1197, q1199, q1200, q1201, q125, ⟨by decide, by decide⟩, rfl, Or.inr (Or.inl ⟨q1198, _, _, _, q1212⟩)⟩) (by decide) ha hk (c_X13_first e9) (hRet_oI _ _) rfl rfl rfl rfl (kOI k)
          · subst hf; exact V_invokevirtualU (k := 21) eX0_about_76 lmX12_first (⟨"LinesPromised$Paper", q1197, q1199, q1203, q1198, q124, ⟨by decide, by decide⟩, rfl, Or.inl rfl⟩) (by decide) ha hk (c_X12_first e9) (hRet_oI _ _) rfl rfl rfl rfl (kOI k)
          · subst hf; exact V_invokevirtualU (k := 22) eX0_about_76 lmX22_first (⟨"LinesPromised$Paper", q1197, q1199, q1207, q1208, q134, ⟨by decide, by decide⟩, rfl, Or.inr (Or.inl ⟨q1198, _, _, _, q1212⟩)⟩) (by decide) ha hk (c_X22_first e9) (hRet_oI _ _) rfl rfl rfl rfl (kOI k)
        obtain ⟨rfl, rfl, rfl, rfl⟩ := zrt_ok H
        exact V_ireturn eX0_about_79 rfl ⟨rfl, rfl⟩
      · cases (show some 80 = some t from e1)
        have q : a2 = (4 : Int32) := Int32.toInt_inj.mp (e2.trans (by decide))
        have H := zif_f (show ¬ a2 = (0 : Int32) from fun z => absurd (q.symm.trans z) (by decide)) H
        have H := zif_f (show ¬ a2 = (1 : Int32) from fun z => absurd (q.symm.trans z) (by decide)) H
        have H := zif_f (show ¬ a2 = (2 : Int32) from fun z => absurd (q.symm.trans z) (by decide)) H
        have H := zif_f (show ¬ a2 = (3 : Int32) from fun z => absurd (q.symm.trans z) (by decide)) H
        have H := zif_t q H
        refine V_aload3 eX0_about_80 (zrf_rf _) ?_
        refine D_callI (pc' := 84) (st := []) H (fun v h' c1 s1 e cb sb k => ?_) (fun v6 h c s H => ?_)
        · obtain ⟨a, f, hr, ha, ht, e9⟩ := zvn_ok e
          cases hr
          rcases t_X12_second_ok ht with ⟨hk, hf⟩ | ⟨hk, hf⟩ | ⟨hk, hf⟩ | ⟨hk, hf⟩ | ⟨hk, hf⟩ | ⟨hk, hf⟩
          · subst hf; exact V_invokevirtualU (k := 13) eX0_about_81 lmX13_second (⟨"LinesPromised$Paper", q1213, q1215, q1223, q1217, q125, ⟨by decide, by decide⟩, rfl, Or.inr (Or.inl ⟨q1214, _, _, _, q1224⟩)⟩) (by decide) ha hk (c_X13_second e9) (hRet_oI _ _) rfl rfl rfl rfl (kOI k)
          · subst hf; exact V_invokevirtualU (k := 15) eX0_about_81 lmX13_second (⟨"LinesPromised$Paper", q1213, q1215, q1222, q1217, q125, ⟨by decide, by decide⟩, rfl, Or.inr (Or.inl ⟨q1214, _, _, _, q1224⟩)⟩) (by decide) ha hk (c_X13_second e9) (hRet_oI _ _) rfl rfl rfl rfl (kOI k)
          · subst hf; exact V_invokevirtualU (k := 17) eX0_about_81 lmX12_second (⟨"LinesPromised$Paper", q1213, q1215, q1220, q1214, q124, ⟨by decide, by decide⟩, rfl, Or.inl rfl⟩) (by decide) ha hk (c_X12_second e9) (hRet_oI _ _) rfl rfl rfl rfl (kOI k)
          · subst hf; exact V_invokevirtualU (k := 18) eX0_about_81 lmX13_second (⟨"LinesPromised$Paper", q1213, q1215, q1216, q1217, q125, ⟨by decide, by decide⟩, rfl, Or.inr (Or.inl ⟨q1214, _, _, _, q1224⟩)⟩) (by decide) ha hk (c_X13_second e9) (hRet_oI _ _) rfl rfl rfl rfl (kOI k)
          · subst hf; exact V_invokevirtualU (k := 21) eX0_about_81 lmX12_second (⟨"LinesPromised$Paper", q1213, q1215, q1219, q1214, q124, ⟨by decide, by decide⟩, rfl, Or.inl rfl⟩) (by decide) ha hk (c_X12_second e9) (hRet_oI _ _) rfl rfl rfl rfl (kOI k)
          · subst hf; exact V_invokevirtualU (k := 22) eX0_about_81 lmX12_second (⟨"LinesPromised$Paper", q1213, q1215, q1221, q1214, q124, ⟨by decide, by decide⟩, rfl, Or.inl rfl⟩) (by decide) ha hk (c_X12_second e9) (hRet_oI _ _) rfl rfl rfl rfl (kOI k)
        obtain ⟨rfl, rfl, rfl, rfl⟩ := zrt_ok H
        exact V_ireturn eX0_about_84 rfl ⟨rfl, rfl⟩
      · cases (show some 85 = some t from e1)
        have q : a2 = (5 : Int32) := Int32.toInt_inj.mp (e2.trans (by decide))
        have H := zif_f (show ¬ a2 = (0 : Int32) from fun z => absurd (q.symm.trans z) (by decide)) H
        have H := zif_f (show ¬ a2 = (1 : Int32) from fun z => absurd (q.symm.trans z) (by decide)) H
        have H := zif_f (show ¬ a2 = (2 : Int32) from fun z => absurd (q.symm.trans z) (by decide)) H
        have H := zif_f (show ¬ a2 = (3 : Int32) from fun z => absurd (q.symm.trans z) (by decide)) H
        have H := zif_f (show ¬ a2 = (4 : Int32) from fun z => absurd (q.symm.trans z) (by decide)) H
        have H := zif_t q H
        refine V_aload3 eX0_about_85 (zrf_rf _) ?_
        refine D_callI (pc' := 89) (st := []) H (fun v h' c1 s1 e cb sb k => ?_) (fun v7 h c s H => ?_)
        · obtain ⟨a, f, hr, ha, ht, e9⟩ := zvn_ok e
          cases hr
          rcases t_X12_gauge_ok ht with ⟨hk, hf⟩ | ⟨hk, hf⟩ | ⟨hk, hf⟩ | ⟨hk, hf⟩ | ⟨hk, hf⟩ | ⟨hk, hf⟩
          · subst hf; exact V_invokevirtualU (k := 13) eX0_about_86 lmX13_gauge (⟨"LinesPromised$Paper", q1225, q1227, q1235, q1229, q125, ⟨by decide, by decide⟩, rfl, Or.inr (Or.inl ⟨q1226, _, _, _, q1236⟩)⟩) (by decide) ha hk (c_X13_gauge e9) (hRet_oI _ _) rfl rfl rfl rfl (kOI k)
          · subst hf; exact V_invokevirtualU (k := 15) eX0_about_86 lmX13_gauge (⟨"LinesPromised$Paper", q1225, q1227, q1234, q1229, q125, ⟨by decide, by decide⟩, rfl, Or.inr (Or.inl ⟨q1226, _, _, _, q1236⟩)⟩) (by decide) ha hk (c_X13_gauge e9) (hRet_oI _ _) rfl rfl rfl rfl (kOI k)
          · subst hf; exact V_invokevirtualU (k := 17) eX0_about_86 lmX12_gauge (⟨"LinesPromised$Paper", q1225, q1227, q1232, q1226, q124, ⟨by decide, by decide⟩, rfl, Or.inl rfl⟩) (by decide) ha hk (c_X12_gauge e9) (hRet_oI _ _) rfl rfl rfl rfl (kOI k)
          · subst hf; exact V_invokevirtualU (k := 18) eX0_about_86 lmX13_gauge (⟨"LinesPromised$Paper", q1225, q1227, q1228, q1229, q125, ⟨by decide, by decide⟩, rfl, Or.inr (Or.inl ⟨q1226, _, _, _, q1236⟩)⟩) (by decide) ha hk (c_X13_gauge e9) (hRet_oI _ _) rfl rfl rfl rfl (kOI k)
          · subst hf; exact V_invokevirtualU (k := 21) eX0_about_86 lmX12_gauge (⟨"LinesPromised$Paper", q1225, q1227, q1231, q1226, q124, ⟨by decide, by decide⟩, rfl, Or.inl rfl⟩) (by decide) ha hk (c_X12_gauge e9) (hRet_oI _ _) rfl rfl rfl rfl (kOI k)
          · subst hf; exact V_invokevirtualU (k := 22) eX0_about_86 lmX12_gauge (⟨"LinesPromised$Paper", q1225, q1227, q1233, q1226, q124, ⟨by decide, by decide⟩, rfl, Or.inl rfl⟩) (by decide) ha hk (c_X12_gauge e9) (hRet_oI _ _) rfl rfl rfl rfl (kOI k)
        obtain ⟨rfl, rfl, rfl, rfl⟩ := zrt_ok H
        exact V_ireturn eX0_about_89 rfl ⟨rfl, rfl⟩
      · cases (show some 90 = some t from e1)
        have q : a2 = (6 : Int32) := Int32.toInt_inj.mp (e2.trans (by decide))
        have H := zif_f (show ¬ a2 = (0 : Int32) from fun z => absurd (q.symm.trans z) (by decide)) H
        have H := zif_f (show ¬ a2 = (1 : Int32) from fun z => absurd (q.symm.trans z) (by decide)) H
        have H := zif_f (show ¬ a2 = (2 : Int32) from fun z => absurd (q.symm.trans z) (by decide)) H
        have H := zif_f (show ¬ a2 = (3 : Int32) from fun z => absurd (q.symm.trans z) (by decide)) H
        have H := zif_f (show ¬ a2 = (4 : Int32) from fun z => absurd (q.symm.trans z) (by decide)) H
        have H := zif_f (show ¬ a2 = (5 : Int32) from fun z => absurd (q.symm.trans z) (by decide)) H
        have H := zif_t q H
        refine V_aload3 eX0_about_90 (zrf_rf _) ?_
        refine D_callI (pc' := 94) (st := []) H (fun v h' c1 s1 e cb sb k => ?_) (fun v8 h c s H => ?_)
        · obtain ⟨a, f, hr, ha, ht, e9⟩ := zvn_ok e
          cases hr
          rcases t_X12_size_ok ht with ⟨hk, hf⟩ | ⟨hk, hf⟩ | ⟨hk, hf⟩ | ⟨hk, hf⟩ | ⟨hk, hf⟩ | ⟨hk, hf⟩
          · subst hf; exact V_invokevirtualU (k := 13) eX0_about_91 lmX13_size (⟨"LinesPromised$Paper", q1237, q1239, q1251, q1252, q125, ⟨by decide, by decide⟩, rfl, Or.inr (Or.inl ⟨q1238, _, _, _, q1254⟩)⟩) (by decide) ha hk (c_X13_size e9) (hRet_oI _ _) rfl rfl rfl rfl (kOI k)
          · subst hf; exact V_invokevirtualU (k := 15) eX0_about_91 lmX14_size (⟨"LinesPromised$Paper", q1237, q1239, q1250, q1241, q126, ⟨by decide, by decide⟩, rfl, Or.inr (Or.inl ⟨q1238, _, _, _, q1254⟩)⟩) (by decide) ha hk (c_X14_size e9) (hRet_oI _ _) rfl rfl rfl rfl (kOI k)
          · subst hf; exact V_invokevirtualU (k := 17) eX0_about_91 lmX17_size (⟨"LinesPromised$Paper", q1237, q1239, q1246, q1247, q129, ⟨by decide, by decide⟩, rfl, Or.inr (Or.inl ⟨q1238, _, _, _, q1254⟩)⟩) (by decide) ha hk (c_X17_size e9) (hRet_oI _ _) rfl rfl rfl rfl (kOI k)
          · subst hf; exact V_invokevirtualU (k := 18) eX0_about_91 lmX14_size (⟨"LinesPromised$Paper", q1237, q1239, q1240, q1241, q126, ⟨by decide, by decide⟩, rfl, Or.inr (Or.inl ⟨q1238, _, _, _, q1254⟩)⟩) (by decide) ha hk (c_X14_size e9) (hRet_oI _ _) rfl rfl rfl rfl (kOI k)
          · subst hf; exact V_invokevirtualU (k := 21) eX0_about_91 lmX21_size (⟨"LinesPromised$Paper", q1237, q1239, q1243, q1244, q133, ⟨by decide, by decide⟩, rfl, Or.inr (Or.inl ⟨q1238, _, _, _, q1254⟩)⟩) (by decide) ha hk (c_X21_size e9) (hRet_oI _ _) rfl rfl rfl rfl (kOI k)
          · subst hf; exact V_invokevirtualU (k := 22) eX0_about_91 lmX21_size (⟨"LinesPromised$Paper", q1237, q1239, q1249, q1244, q133, ⟨by decide, by decide⟩, rfl, Or.inr (Or.inl ⟨q1238, _, _, _, q1254⟩)⟩) (by decide) ha hk (c_X21_size e9) (hRet_oI _ _) rfl rfl rfl rfl (kOI k)
        obtain ⟨rfl, rfl, rfl, rfl⟩ := zrt_ok H
        exact V_ireturn eX0_about_94 rfl ⟨rfl, rfl⟩
      · cases (show some 95 = some t from e1)
        have q : a2 = (7 : Int32) := Int32.toInt_inj.mp (e2.trans (by decide))
        have H := zif_f (show ¬ a2 = (0 : Int32) from fun z => absurd (q.symm.trans z) (by decide)) H
        have H := zif_f (show ¬ a2 = (1 : Int32) from fun z => absurd (q.symm.trans z) (by decide)) H
        have H := zif_f (show ¬ a2 = (2 : Int32) from fun z => absurd (q.symm.trans z) (by decide)) H
        have H := zif_f (show ¬ a2 = (3 : Int32) from fun z => absurd (q.symm.trans z) (by decide)) H
        have H := zif_f (show ¬ a2 = (4 : Int32) from fun z => absurd (q.symm.trans z) (by decide)) H
        have H := zif_f (show ¬ a2 = (5 : Int32) from fun z => absurd (q.symm.trans z) (by decide)) H
        have H := zif_f (show ¬ a2 = (6 : Int32) from fun z => absurd (q.symm.trans z) (by decide)) H
        have H := zif_t q H
        refine V_aload3 eX0_about_95 (zrf_rf _) ?_
        refine D_callI (pc' := 99) (st := []) H (fun v h' c1 s1 e cb sb k => ?_) (fun v9 h c s H => ?_)
        · obtain ⟨a, f, hr, ha, ht, e9⟩ := zvn_ok e
          cases hr
          rcases t_X12_isDone_ok ht with ⟨hk, hf⟩ | ⟨hk, hf⟩ | ⟨hk, hf⟩ | ⟨hk, hf⟩ | ⟨hk, hf⟩ | ⟨hk, hf⟩
          · subst hf; exact V_invokevirtualU (k := 13) eX0_about_96 lmX13_isDone (⟨"LinesPromised$Paper", q1255, q1257, q1269, q1267, q125, ⟨by decide, by decide⟩, rfl, Or.inr (Or.inl ⟨q1256, _, _, _, q1270⟩)⟩) (by decide) ha hk (c_X13_isDone e9) (hRet_oI _ _) rfl rfl rfl rfl (kOI k)
          · subst hf; exact V_invokevirtualU (k := 15) eX0_about_96 lmX13_isDone (⟨"LinesPromised$Paper", q1255, q1257, q1266, q1267, q125, ⟨by decide, by decide⟩, rfl, Or.inr (Or.inl ⟨q1256, _, _, _, q1270⟩)⟩) (by decide) ha hk (c_X13_isDone e9) (hRet_oI _ _) rfl rfl rfl rfl (kOI k)
          · subst hf; exact V_invokevirtualU (k := 17) eX0_about_96 lmX12_isDone (⟨"LinesPromised$Paper", q1255, q1257, q1264, q1256, q124, ⟨by decide, by decide⟩, rfl, Or.inl rfl⟩) (by decide) ha hk (c_X12_isDone e9) (hRet_oI _ _) rfl rfl rfl rfl (kOI k)
          · subst hf; exact V_invokevirtualU (k := 18) eX0_about_96 lmX18_isDone (⟨"LinesPromised$Paper", q1255, q1257, q1258, q1259, q130, ⟨by decide, by decide⟩, rfl, Or.inr (Or.inl ⟨q1256, _, _, _, q1270⟩)⟩) (by decide) ha hk (c_X18_isDone e9) (hRet_oI _ _) rfl rfl rfl rfl (kOI k)
          · subst hf; exact V_invokevirtualU (k := 21) eX0_about_96 lmX21_isDone (⟨"LinesPromised$Paper", q1255, q1257, q1261, q1262, q133, ⟨by decide, by decide⟩, rfl, Or.inr (Or.inl ⟨q1256, _, _, _, q1270⟩)⟩) (by decide) ha hk (c_X21_isDone e9) (hRet_oI _ _) rfl rfl rfl rfl (kOI k)
          · subst hf; exact V_invokevirtualU (k := 22) eX0_about_96 lmX21_isDone (⟨"LinesPromised$Paper", q1255, q1257, q1265, q1262, q133, ⟨by decide, by decide⟩, rfl, Or.inr (Or.inl ⟨q1256, _, _, _, q1270⟩)⟩) (by decide) ha hk (c_X21_isDone e9) (hRet_oI _ _) rfl rfl rfl rfl (kOI k)
        refine V_ifeq eX0_about_99 (fun q => ?_) (fun q => ?_)
        · have H := zif_t q H
          refine V_iconst (v := 0) (by decide) eX0_about_106 ?_
          exact V_fg2 (b_X0_about_107 H) (zfg_n (zfg_n (zfg_n (zfg_n zfg_e))))
        · have H := zif_f q H
          refine V_iconst (v := 1) (by decide) eX0_about_102 ?_
          refine V_goto eX0_about_103 ?_
          exact V_fg2 (b_X0_about_107 H) (zfg_n (zfg_n (zfg_n (zfg_n zfg_e))))
      · rw [List.getElem?_eq_none (by simpa using hlt)] at e1; cases e1
    · have q9 := q
      have H := zif_f (show ¬ a2 = (0 : Int32) from fun z => by rw [z] at q9; exact absurd q9 (by decide)) H
      have H := zif_f (show ¬ a2 = (1 : Int32) from fun z => by rw [z] at q9; exact absurd q9 (by decide)) H
      have H := zif_f (show ¬ a2 = (2 : Int32) from fun z => by rw [z] at q9; exact absurd q9 (by decide)) H
      have H := zif_f (show ¬ a2 = (3 : Int32) from fun z => by rw [z] at q9; exact absurd q9 (by decide)) H
      have H := zif_f (show ¬ a2 = (4 : Int32) from fun z => by rw [z] at q9; exact absurd q9 (by decide)) H
      have H := zif_f (show ¬ a2 = (5 : Int32) from fun z => by rw [z] at q9; exact absurd q9 (by decide)) H
      have H := zif_f (show ¬ a2 = (6 : Int32) from fun z => by rw [z] at q9; exact absurd q9 (by decide)) H
      have H := zif_f (show ¬ a2 = (7 : Int32) from fun z => by rw [z] at q9; exact absurd q9 (by decide)) H
      refine V_iconst (v := -1) (by decide) eX0_about_108 ?_
      obtain ⟨rfl, rfl, rfl, rfl⟩ := zrt_ok H
      exact V_ireturn eX0_about_109 rfl ⟨rfl, rfl⟩
  · have H := zif_t q H
    refine V_iconst (v := -1) (by decide) eX0_about_10 ?_
    obtain ⟨rfl, rfl, rfl, rfl⟩ := zrt_ok H
    exact V_ireturn eX0_about_11 rfl ⟨rfl, rfl⟩
