set_option maxRecDepth 100000
def o_X0_isHolder (w : Wd) (F : Nat) (a0 : Int32) : M Int32 :=
  zbd (o_X0_in w F a0 (0 : Int32) (7 : Int32)) fun v1 =>
  zbd (zgd (v1 = 0 ∨ v1 = 1)) fun _ => zrt v1
theorem c_X0_isHolder {w : Wd} {F : Nat} {a0 : Int32} {h h1 : Hp} {y : Int32} {c s : Nat} (H : o_X0_isHolder w F a0 h = some (y, h1, c, s)) : Con w mX0_isHolder cX0_isHolder 1 c s [.int a0] h (Ro (oI y) h1) := by
  unfold o_X0_isHolder at H
  refine Con.of (ls := [some (.int a0)]) (by decide +kernel) rfl rfl ?_
  refine V_iload0 eX0_isHolder_0 ?_
  refine V_iconst (v := 0) (by decide) eX0_isHolder_1 ?_
  refine V_bipush (v := 7) (by decide) eX0_isHolder_2 ?_
  refine D_callI (pc' := 7) (st := []) H (fun v h' c1 s1 e cb sb k => ?_) (fun v1 h c s H => ?_)
  · exact V_invokestatic eX0_isHolder_4 lmX0_in q149 q150 (c_X0_in e) (hRet_oI _ _) rfl rfl rfl rfl (kOI k)
  obtain ⟨q, H⟩ := zgd_ok H
  obtain ⟨rfl, rfl, rfl, rfl⟩ := zrt_ok H
  exact V_zreturn eX0_isHolder_7 rfl q ⟨rfl, rfl⟩
def f_X0_coins : Nat → Option Nat := fun k => match k with
  | 0 => some 3
  | _ => none
theorem fq_X0_60_tR : FQ RX0 60 f_X0_coins tR := by
  intro k j e
  unfold f_X0_coins at e
  split at e
  · cases e; exact ⟨fl_X0_60_0, Or.inr ⟨_, rfl⟩⟩
  · cases e
def o_X0_coin (w : Wd) (F : Nat) (x : Nat) (a1 : Int32) (a2 : Int32) : M Int32 :=
  zbd (o_X0_isHolder w F a1) fun v1 =>
  zif (v1 = 0) (zrt (-1 : Int32))
  (zbd (o_X0_in w F a2 (0 : Int32) (99999 : Int32)) fun v2 =>
  zif (v2 = 0) (zrt (-2 : Int32))
  (zbd (zgR f_X0_coins (some x)) fun v3 =>
  zbd (zaL v3 a1) fun v4 =>
  zbd (zgR f_X0_coins (some x)) fun v5 =>
  zbd (zsL v5 a1 (a2).toInt64) fun _ =>
  zrt (v4).toInt32))
theorem c_X0_coin {w : Wd} {F : Nat} {x : Nat} {a1 : Int32} {a2 : Int32} {h h1 : Hp} {y : Int32} {c s : Nat} (H : o_X0_coin w F x a1 a2 h = some (y, h1, c, s)) : Con w mX0_coin cX0_coin 2 c s [.ref x, .int a1, .int a2] h (Ro (oI y) h1) := by
  unfold o_X0_coin at H
  refine Con.of (ls := [some (va_rf (some x)), some (.int a1), some (.int a2), none]) (by decide +kernel) rfl rfl ?_
  refine V_iload1 eX0_coin_0 ?_
  refine D_callI (pc' := 4) (st := []) H (fun v h' c1 s1 e cb sb k => ?_) (fun v1 h c s H => ?_)
  · exact V_invokestatic eX0_coin_1 lmX0_isHolder q276 q277 (c_X0_isHolder e) (hRet_oI _ _) rfl rfl rfl rfl (kOI k)
  refine V_ifne eX0_coin_4 (fun q => ?_) (fun q => ?_)
  · have H := zif_f q H
    refine V_iload2 eX0_coin_9 ?_
    refine V_iconst (v := 0) (by decide) eX0_coin_10 ?_
    refine V_ldc (v := 99999) eX0_coin_11 q279 ?_
    refine D_callI (pc' := 16) (st := []) H (fun v h' c1 s1 e cb sb k => ?_) (fun v2 h c s H => ?_)
    · exact V_invokestatic eX0_coin_13 lmX0_in q149 q150 (c_X0_in e) (hRet_oI _ _) rfl rfl rfl rfl (kOI k)
    refine V_ifne eX0_coin_16 (fun q => ?_) (fun q => ?_)
    · have H := zif_f q H
      refine V_aload0 eX0_coin_22 (zrf_rf _) ?_
      refine D_gR eX0_coin_23 fq_X0_60_tR H (fun v3 H => ?_)
      refine V_iload1 eX0_coin_26 ?_
      refine D_laload eX0_coin_27 H (fun v4 H => ?_)
      refine V_l2i eX0_coin_28 ?_
      refine V_istore3 rfl eX0_coin_29 rfl ?_
      refine V_aload0 eX0_coin_30 (zrf_rf _) ?_
      refine D_gR eX0_coin_31 fq_X0_60_tR H (fun v5 H => ?_)
      refine V_iload1 eX0_coin_34 ?_
      refine V_iload2 eX0_coin_35 ?_
      refine V_i2l eX0_coin_36 ?_
      refine D_lastore eX0_coin_37 H (fun h H => ?_)
      refine V_iload3 eX0_coin_38 ?_
      obtain ⟨rfl, rfl, rfl, rfl⟩ := zrt_ok H
      exact V_ireturn eX0_coin_39 rfl ⟨rfl, rfl⟩
    · have H := zif_t q H
      refine V_bipush (v := -2) (by decide) eX0_coin_19 ?_
      obtain ⟨rfl, rfl, rfl, rfl⟩ := zrt_ok H
      exact V_ireturn eX0_coin_21 rfl ⟨rfl, rfl⟩
  · have H := zif_t q H
    refine V_iconst (v := -1) (by decide) eX0_coin_7 ?_
    obtain ⟨rfl, rfl, rfl, rfl⟩ := zrt_ok H
    exact V_ireturn eX0_coin_8 rfl ⟨rfl, rfl⟩
def f_X0_men : Nat → Option Nat := fun k => match k with
  | 0 => some 5
  | _ => none
theorem fq_X0_64_tI : FQ RX0 64 f_X0_men tI := by
  intro k j e
  unfold f_X0_men at e
  split at e
  · cases e; exact ⟨fl_X0_64_0, Or.inl rfl⟩
  · cases e
theorem fq_X0_64_tN : FQ RX0 64 f_X0_men tN := by
  intro k j e
  unfold f_X0_men at e
  split at e
  · cases e; exact ⟨fl_X0_64_0, rfl⟩
  · cases e
theorem fn_X0_man_64 : FN mX0_man 64 f_X0_men := by
  intro k j e
  unfold f_X0_men at e
  split at e
  · cases e; exact Or.inl rfl
  · cases e
def o_X0_man (w : Wd) (F : Nat) (x : Nat) (a1 : Int32) : M Int32 :=
  zbd (o_X0_in w F a1 (0 : Int32) (99 : Int32)) fun v1 =>
  zif (v1 = 0) (zrt (-2 : Int32))
  (zbd (zgI f_X0_men (some x)) fun v2 =>
  zbd (zpI f_X0_men (some x) a1) fun _ =>
  zrt v2)
theorem c_X0_man {w : Wd} {F : Nat} {x : Nat} {a1 : Int32} {h h1 : Hp} {y : Int32} {c s : Nat} (H : o_X0_man w F x a1 h = some (y, h1, c, s)) : Con w mX0_man cX0_man 1 c s [.ref x, .int a1] h (Ro (oI y) h1) := by
  unfold o_X0_man at H
  refine Con.of (ls := [some (va_rf (some x)), some (.int a1), none]) (by decide +kernel) rfl rfl ?_
  refine V_iload1 eX0_man_0 ?_
  refine V_iconst (v := 0) (by decide) eX0_man_1 ?_
  refine V_bipush (v := 99) (by decide) eX0_man_2 ?_
  refine D_callI (pc' := 7) (st := []) H (fun v h' c1 s1 e cb sb k => ?_) (fun v1 h c s H => ?_)
  · exact V_invokestatic eX0_man_4 lmX0_in q149 q150 (c_X0_in e) (hRet_oI _ _) rfl rfl rfl rfl (kOI k)
  refine V_ifne eX0_man_7 (fun q => ?_) (fun q => ?_)
  · have H := zif_f q H
    refine V_aload0 eX0_man_13 (zrf_rf _) ?_
    refine D_gI eX0_man_14 fq_X0_64_tI H (fun v2 H => ?_)
    refine V_istore2 rfl eX0_man_17 rfl ?_
    refine V_aload0 eX0_man_18 (zrf_rf _) ?_
    refine V_iload1 eX0_man_19 ?_
    refine D_pI eX0_man_20 fq_X0_64_tN fn_X0_man_64 H (fun h H => ?_)
    refine V_iload2 eX0_man_23 ?_
    obtain ⟨rfl, rfl, rfl, rfl⟩ := zrt_ok H
    exact V_ireturn eX0_man_24 rfl ⟨rfl, rfl⟩
  · have H := zif_t q H
    refine V_bipush (v := -2) (by decide) eX0_man_10 ?_
    obtain ⟨rfl, rfl, rfl, rfl⟩ := zrt_ok H
    exact V_ireturn eX0_man_12 rfl ⟨rfl, rfl⟩
def f_X0_taped : Nat → Option Nat := fun k => match k with
  | 0 => some 7
  | _ => none
theorem fq_X0_67_tI : FQ RX0 67 f_X0_taped tI := by
  intro k j e
  unfold f_X0_taped at e
  split at e
  · cases e; exact ⟨fl_X0_67_0, Or.inl rfl⟩
  · cases e
def f_X0_tape : Nat → Option Nat := fun k => match k with
  | 0 => some 6
  | _ => none
theorem fq_X0_70_tR : FQ RX0 70 f_X0_tape tR := by
  intro k j e
  unfold f_X0_tape at e
  split at e
  · cases e; exact ⟨fl_X0_70_0, Or.inr ⟨_, rfl⟩⟩
  · cases e
theorem fq_X0_67_tN : FQ RX0 67 f_X0_taped tN := by
  intro k j e
  unfold f_X0_taped at e
  split at e
  · cases e; exact ⟨fl_X0_67_0, rfl⟩
  · cases e
theorem fn_X0_feed_67 : FN mX0_feed 67 f_X0_taped := by
  intro k j e
  unfold f_X0_taped at e
  split at e
  · cases e; exact Or.inl rfl
  · cases e
def B_X0_feed_33 (w : Wd) (F : Nat) (k33 : Int32 → M Int32) (x : Nat) (a1 : Int64) (a4 : Int32) : M Int32 :=
  zif (a4 < 0) (zbd (zgI f_X0_taped (some x)) fun v3 =>
  zrt v3)
  (zbd (zgR f_X0_tape (some x)) fun v4 =>
  zbd (zgI f_X0_taped (some x)) fun v5 =>
  zbd (zpI f_X0_taped (some x) (v5 + (1 : Int32))) fun _ =>
  zbd (zsI 2 v4 v5 ((((a1 >>> ((((8 : Int32) * a4)).toInt64 &&& 63))).toInt32).toInt8.toInt32).toInt8.toInt32) fun _ =>
  k33 (a4 + (-1 : Int32)))
def d_X0_feed_33 (w : Wd) (F : Nat) (x : Nat) (a1 : Int64) : Nat → Int32 → M Int32
  | 0, _ => zno
  | n + 1, a4 => B_X0_feed_33 w F (d_X0_feed_33 w F x a1 n) x a1 a4
def o_X0_feed (w : Wd) (F : Nat) (x : Nat) (a1 : Int64) (a3 : Int32) : M Int32 :=
  zbd (o_X0_in w F a3 (1 : Int32) (8 : Int32)) fun v1 =>
  zif (v1 = 0) (zrt (-2 : Int32))
  (zbd (zgI f_X0_taped (some x)) fun v2 =>
  zif ((v2 + a3) ≤ (140 : Int32)) (d_X0_feed_33 w F x a1 F (a3 - (1 : Int32)))
  (zrt (-4 : Int32)))
theorem bB_X0_feed_33 {w : Wd} {F : Nat} {k33 : Int32 → M Int32} {x : Nat} {a1 : Int64} (hk33 : ∀ (a4 : Int32) (h : Hp) (y : Int32) (h1 : Hp) (c s : Nat), k33 a4 h = some (y, h1, c, s) → V w mX0_feed cX0_feed 1 c s h 33 [some (va_rf (some x)), some (.long a1), none, none, some (.int a4)] [] (Ro (oI y) h1)) {a4 : Int32} {h h1 : Hp} {y : Int32} {c s : Nat} (H : B_X0_feed_33 w F k33 x a1 a4 h = some (y, h1, c, s)) : V w mX0_feed cX0_feed 1 c s h 33 [some (va_rf (some x)), some (.long a1), none, none, some (.int a4)] [] (Ro (oI y) h1) := by
  unfold B_X0_feed_33 at H
  refine V_iload4 eX0_feed_33 ?_
  refine V_iflt eX0_feed_35 (fun q => ?_) (fun q => ?_)
  · have H := zif_t q H
    refine V_aload0 eX0_feed_69 (zrf_rf _) ?_
    refine D_gI eX0_feed_70 fq_X0_67_tI H (fun v3 H => ?_)
    obtain ⟨rfl, rfl, rfl, rfl⟩ := zrt_ok H
    exact V_ireturn eX0_feed_73 rfl ⟨rfl, rfl⟩
  · have H := zif_f q H
    refine V_aload0 eX0_feed_38 (zrf_rf _) ?_
    refine D_gR eX0_feed_39 fq_X0_70_tR H (fun v4 H => ?_)
    refine V_aload0 eX0_feed_42 (zrf_rf _) ?_
    refine V_dup (zcr _) eX0_feed_43 ?_
    refine D_gI eX0_feed_44 fq_X0_67_tI H (fun v5 H => ?_)
    refine V_dup_x1 rfl (zcr _) eX0_feed_47 ?_
    refine V_iconst (v := 1) (by decide) eX0_feed_48 ?_
    refine V_iadd eX0_feed_49 ?_
    refine D_pI eX0_feed_50 fq_X0_67_tN fn_X0_feed_67 H (fun h H => ?_)
    refine V_lload1 eX0_feed_53 ?_
    refine V_bipush (v := 8) (by decide) eX0_feed_54 ?_
    refine V_iload4 eX0_feed_56 ?_
    refine V_imul eX0_feed_58 ?_
    refine V_lshr eX0_feed_59 ?_
    refine V_l2i eX0_feed_60 ?_
    refine V_i2b eX0_feed_61 ?_
    refine D_bastore eX0_feed_62 H (fun h H => ?_)
    refine V_iinc4 rfl eX0_feed_63 rfl (v := -1) (by decide) ?_
    refine V_goto eX0_feed_66 ?_
    exact V_fg2 (hk33 _ _ _ _ _ _ H) (zfg_k (zfg_k (zfg_n (zfg_n (zfg_k zfg_e)))))
theorem b_X0_feed_33 {w : Wd} {F : Nat} {x : Nat} {a1 : Int64} : ∀ (n : Nat) (a4 : Int32) (h : Hp) (y : Int32) (h1 : Hp) (c s : Nat), d_X0_feed_33 w F x a1 n a4 h = some (y, h1, c, s) → V w mX0_feed cX0_feed 1 c s h 33 [some (va_rf (some x)), some (.long a1), none, none, some (.int a4)] [] (Ro (oI y) h1) := by
  intro n
  induction n with
  | zero => intro a4 h y h1 c s H; exact zno_no H
  | succ n ih => intro a4 h y h1 c s H; exact bB_X0_feed_33 ih H
theorem c_X0_feed {w : Wd} {F : Nat} {x : Nat} {a1 : Int64} {a3 : Int32} {h h1 : Hp} {y : Int32} {c s : Nat} (H : o_X0_feed w F x a1 a3 h = some (y, h1, c, s)) : Con w mX0_feed cX0_feed 1 c s [.ref x, .long a1, .int a3] h (Ro (oI y) h1) := by
  unfold o_X0_feed at H
  refine Con.of (ls := [some (va_rf (some x)), some (.long a1), none, some (.int a3), none]) (by decide +kernel) rfl rfl ?_
  refine V_iload3 eX0_feed_0 ?_
  refine V_iconst (v := 1) (by decide) eX0_feed_1 ?_
  refine V_bipush (v := 8) (by decide) eX0_feed_2 ?_
  refine D_callI (pc' := 7) (st := []) H (fun v h' c1 s1 e cb sb k => ?_) (fun v1 h c s H => ?_)
  · exact V_invokestatic eX0_feed_4 lmX0_in q149 q150 (c_X0_in e) (hRet_oI _ _) rfl rfl rfl rfl (kOI k)
  refine V_ifne eX0_feed_7 (fun q => ?_) (fun q => ?_)
  · have H := zif_f q H
    refine V_aload0 eX0_feed_13 (zrf_rf _) ?_
    refine D_gI eX0_feed_14 fq_X0_67_tI H (fun v2 H => ?_)
    refine V_iload3 eX0_feed_17 ?_
    refine V_iadd eX0_feed_18 ?_
    refine V_sipush (v := 140) (by decide) eX0_feed_19 ?_
    refine V_if_icmple eX0_feed_22 (fun q => ?_) (fun q => ?_)
    · have H := zif_t q H
      refine V_iload3 eX0_feed_28 ?_
      refine V_iconst (v := 1) (by decide) eX0_feed_29 ?_
      refine V_isub eX0_feed_30 ?_
      refine V_istore4 rfl eX0_feed_31 rfl ?_
      exact V_fg2 (b_X0_feed_33 _ _ _ _ _ _ _ H) (zfg_k (zfg_k (zfg_n (zfg_n (zfg_k zfg_e)))))
    · have H := zif_f q H
      refine V_bipush (v := -4) (by decide) eX0_feed_25 ?_
      obtain ⟨rfl, rfl, rfl, rfl⟩ := zrt_ok H
      exact V_ireturn eX0_feed_27 rfl ⟨rfl, rfl⟩
  · have H := zif_t q H
    refine V_bipush (v := -2) (by decide) eX0_feed_10 ?_
    obtain ⟨rfl, rfl, rfl, rfl⟩ := zrt_ok H
    exact V_ireturn eX0_feed_12 rfl ⟨rfl, rfl⟩
def o_X0_isDay (w : Wd) (F : Nat) (a0 : Int32) : M Int32 :=
  zbd (o_X0_in w F a0 (0 : Int32) (999 : Int32)) fun v1 =>
  zbd (zgd (v1 = 0 ∨ v1 = 1)) fun _ => zrt v1
theorem c_X0_isDay {w : Wd} {F : Nat} {a0 : Int32} {h h1 : Hp} {y : Int32} {c s : Nat} (H : o_X0_isDay w F a0 h = some (y, h1, c, s)) : Con w mX0_isDay cX0_isDay 1 c s [.int a0] h (Ro (oI y) h1) := by
  unfold o_X0_isDay at H
  refine Con.of (ls := [some (.int a0)]) (by decide +kernel) rfl rfl ?_
  refine V_iload0 eX0_isDay_0 ?_
  refine V_iconst (v := 0) (by decide) eX0_isDay_1 ?_
  refine V_sipush (v := 999) (by decide) eX0_isDay_2 ?_
  refine D_callI (pc' := 8) (st := []) H (fun v h' c1 s1 e cb sb k => ?_) (fun v1 h c s H => ?_)
  · exact V_invokestatic eX0_isDay_5 lmX0_in q149 q150 (c_X0_in e) (hRet_oI _ _) rfl rfl rfl rfl (kOI k)
  obtain ⟨q, H⟩ := zgd_ok H
  obtain ⟨rfl, rfl, rfl, rfl⟩ := zrt_ok H
  exact V_zreturn eX0_isDay_8 rfl q ⟨rfl, rfl⟩
def f_X1_at : Nat → Option Nat := fun k => match k with
  | 1 => some 2
  | _ => none
theorem fq_X1_24_tI : FQ RX1 24 f_X1_at tI := by
  intro k j e
  unfold f_X1_at at e
  split at e
  · cases e; exact ⟨fl_X1_24_1, Or.inl rfl⟩
  · cases e
def f_X1_this_0 : Nat → Option Nat := fun k => match k with
  | 1 => some 4
  | _ => none
theorem fq_X1_3_tR : FQ RX1 3 f_X1_this_0 tR := by
  intro k j e
  unfold f_X1_this_0 at e
  split at e
  · cases e; exact ⟨fl_X1_3_1, Or.inl ⟨_, rfl⟩⟩
  · cases e
theorem fq_X1_28_tI : FQ RX1 28 f_X0_taped tI := by
  intro k j e
  unfold f_X0_taped at e
  split at e
  · cases e; exact ⟨fl_X1_28_0, Or.inl rfl⟩
  · cases e
theorem fq_X1_31_tR : FQ RX1 31 f_X0_tape tR := by
  intro k j e
  unfold f_X0_tape at e
  split at e
  · cases e; exact ⟨fl_X1_31_0, Or.inr ⟨_, rfl⟩⟩
  · cases e
def d_X1_next_30 (w : Wd) (F : Nat) (s0 : Int32) : M Int32 :=
  zrt s0
def o_X1_next (w : Wd) (F : Nat) (x : Nat) : M Int32 :=
  zbd (zgI f_X1_at (some x)) fun v1 =>
  zbd (zgR f_X1_this_0 (some x)) fun v2 =>
  zbd (zgI f_X0_taped v2) fun v3 =>
  zif (v3 ≤ v1) (d_X1_next_30 w F (-1 : Int32))
  (zbd (zgR f_X1_this_0 (some x)) fun v4 =>
  zbd (zgR f_X0_tape v4) fun v5 =>
  zbd (zgI f_X1_at (some x)) fun v6 =>
  zbd (zaI 2 v5 v6) fun v7 =>
  d_X1_next_30 w F v7)
theorem b_X1_next_30 {w : Wd} {F : Nat} {s0 : Int32} {h h1 : Hp} {y : Int32} {c s : Nat} (H : d_X1_next_30 w F s0 h = some (y, h1, c, s)) : V w mX1_next cX1_next 0 c s h 30 [none] [.int s0] (Ro (oI y) h1) := by
  unfold d_X1_next_30 at H
  obtain ⟨rfl, rfl, rfl, rfl⟩ := zrt_ok H
  exact V_ireturn eX1_next_30 rfl ⟨rfl, rfl⟩
theorem c_X1_next {w : Wd} {F : Nat} {x : Nat} {h h1 : Hp} {y : Int32} {c s : Nat} (H : o_X1_next w F x h = some (y, h1, c, s)) : Con w mX1_next cX1_next 0 c s [.ref x] h (Ro (oI y) h1) := by
  unfold o_X1_next at H
  refine Con.of (ls := [some (va_rf (some x))]) (by decide +kernel) rfl rfl ?_
  refine V_aload0 eX1_next_0 (zrf_rf _) ?_
  refine D_gI eX1_next_1 fq_X1_24_tI H (fun v1 H => ?_)
  refine V_aload0 eX1_next_4 (zrf_rf _) ?_
  refine D_gR eX1_next_5 fq_X1_3_tR H (fun v2 H => ?_)
  refine D_gI eX1_next_8 fq_X1_28_tI H (fun v3 H => ?_)
  refine V_if_icmpge eX1_next_11 (fun q => ?_) (fun q => ?_)
  · have H := zif_t q H
    refine V_iconst (v := -1) (by decide) eX1_next_29 ?_
    exact V_fg2 (b_X1_next_30 H) (zfg_n zfg_e)
  · have H := zif_f q H
    refine V_aload0 eX1_next_14 (zrf_rf _) ?_
    refine D_gR eX1_next_15 fq_X1_3_tR H (fun v4 H => ?_)
    refine D_gR eX1_next_18 fq_X1_31_tR H (fun v5 H => ?_)
    refine V_aload0 eX1_next_21 (zrf_rf _) ?_
    refine D_gI eX1_next_22 fq_X1_24_tI H (fun v6 H => ?_)
    refine D_baload eX1_next_25 H (fun v7 H => ?_)
    refine V_goto eX1_next_26 ?_
    exact V_fg2 (b_X1_next_30 H) (zfg_n zfg_e)
def d_X1_isDigit_23 (w : Wd) (F : Nat) (s0 : Int32) : M Int32 :=
  zbd (zgd (s0 = 0 ∨ s0 = 1)) fun _ => zrt s0
def d_X1_isDigit_22 (w : Wd) (F : Nat) : M Int32 :=
  d_X1_isDigit_23 w F (0 : Int32)
def o_X1_isDigit (w : Wd) (F : Nat) (x : Nat) : M Int32 :=
  zbd (zv1 1 (some x) (fun a => o_X1_next w F a)) fun v1 =>
  zif (v1 < (48 : Int32)) (d_X1_isDigit_22 w F)
  (zbd (zv1 1 (some x) (fun a => o_X1_next w F a)) fun v2 =>
  zif ((57 : Int32) < v2) (d_X1_isDigit_22 w F)
  (d_X1_isDigit_23 w F (1 : Int32)))
theorem b_X1_isDigit_23 {w : Wd} {F : Nat} {s0 : Int32} {h h1 : Hp} {y : Int32} {c s : Nat} (H : d_X1_isDigit_23 w F s0 h = some (y, h1, c, s)) : V w mX1_isDigit cX1_isDigit 1 c s h 23 [none] [.int s0] (Ro (oI y) h1) := by
  unfold d_X1_isDigit_23 at H
  obtain ⟨q, H⟩ := zgd_ok H
  obtain ⟨rfl, rfl, rfl, rfl⟩ := zrt_ok H
  exact V_zreturn eX1_isDigit_23 rfl q ⟨rfl, rfl⟩
theorem b_X1_isDigit_22 {w : Wd} {F : Nat} {h h1 : Hp} {y : Int32} {c s : Nat} (H : d_X1_isDigit_22 w F h = some (y, h1, c, s)) : V w mX1_isDigit cX1_isDigit 1 c s h 22 [none] [] (Ro (oI y) h1) := by
  unfold d_X1_isDigit_22 at H
  refine V_iconst (v := 0) (by decide) eX1_isDigit_22 ?_
  exact V_fg2 (b_X1_isDigit_23 H) (zfg_n zfg_e)
theorem c_X1_isDigit {w : Wd} {F : Nat} {x : Nat} {h h1 : Hp} {y : Int32} {c s : Nat} (H : o_X1_isDigit w F x h = some (y, h1, c, s)) : Con w mX1_isDigit cX1_isDigit 1 c s [.ref x] h (Ro (oI y) h1) := by
  unfold o_X1_isDigit at H
  refine Con.of (ls := [some (va_rf (some x))]) (by decide +kernel) rfl rfl ?_
  refine V_aload0 eX1_isDigit_0 (zrf_rf _) ?_
  refine D_callI (pc' := 4) (st := []) H (fun v h' c1 s1 e cb sb k => ?_) (fun v1 h c s H => ?_)
  · obtain ⟨a, hr, ha, hk, e9⟩ := zv1_ok e
    cases hr
    exact V_invokevirtual (k := 1) eX1_isDigit_1 lmX1_next q357 q359 rfl rfl qs7 ha hk (c_X1_next e9) (hRet_oI _ _) rfl rfl rfl rfl (kOI k)
  refine V_bipush (v := 48) (by decide) eX1_isDigit_4 ?_
  refine V_if_icmplt eX1_isDigit_6 (fun q => ?_) (fun q => ?_)
  · have H := zif_t q H
    exact V_fg2 (b_X1_isDigit_22 H) (zfg_n zfg_e)
  · have H := zif_f q H
    refine V_aload0 eX1_isDigit_9 (zrf_rf _) ?_
    refine D_callI (pc' := 13) (st := []) H (fun v h' c1 s1 e cb sb k => ?_) (fun v2 h c s H => ?_)
    · obtain ⟨a, hr, ha, hk, e9⟩ := zv1_ok e
      cases hr
      exact V_invokevirtual (k := 1) eX1_isDigit_10 lmX1_next q357 q359 rfl rfl qs7 ha hk (c_X1_next e9) (hRet_oI _ _) rfl rfl rfl rfl (kOI k)
    refine V_bipush (v := 57) (by decide) eX1_isDigit_13 ?_
    refine V_if_icmpgt eX1_isDigit_15 (fun q => ?_) (fun q => ?_)
    · have H := zif_t q H
      exact V_fg2 (b_X1_isDigit_22 H) (zfg_n zfg_e)
    · have H := zif_f q H
      refine V_iconst (v := 1) (by decide) eX1_isDigit_18 ?_
      refine V_goto eX1_isDigit_19 ?_
      exact V_fg2 (b_X1_isDigit_23 H) (zfg_n zfg_e)
def f_X5_place : Nat → Option Nat := fun k => match k with
  | 5 => some 6
  | _ => none
theorem fq_X5_7_tN : FQ RX5 7 f_X5_place tN := by
  intro k j e
  unfold f_X5_place at e
  split at e
  · cases e; exact ⟨fl_X5_7_5, rfl⟩
  · cases e
theorem fn_X5_init_7 : FN mX5_init 7 f_X5_place := by
  intro k j e
  unfold f_X5_place at e
  split at e
  · cases e; exact Or.inr ⟨rfl, rfl, rfl, _, q408, rfl⟩
  · cases e
def o_X5_init (w : Wd) (F : Nat) (x : Nat) (a1 : Int32) : M Unit :=
  zbd (o_J9_init w F x none none (0 : Int32) (0 : Int32)) fun _ =>
  zbd (zpI f_X5_place (some x) a1) fun _ =>
  zrt ()
theorem c_X5_init {w : Wd} {F : Nat} {x : Nat} {a1 : Int32} {h h1 : Hp} {y : Unit} {c s : Nat} (H : o_X5_init w F x a1 h = some (y, h1, c, s)) : Con w mX5_init cX5_init 3 c s [.ref x, .int a1] h (Ro (oU y) h1) := by
  unfold o_X5_init at H
  refine Con.of (ls := [some (va_rf (some x)), some (.int a1)]) (by decide +kernel) rfl rfl ?_
  refine V_aload0 eX5_init_0 (zrf_rf _) ?_
  refine D_null eX5_init_1 ?_
  refine D_null eX5_init_2 ?_
  refine V_iconst (v := 0) (by decide) eX5_init_3 ?_
  refine V_iconst (v := 0) (by decide) eX5_init_4 ?_
  refine D_callU (pc' := 8) (st := []) H (fun v h' c1 s1 e cb sb k => ?_) (fun v1 h c s H => ?_)
  · exact V_invokeinit eX5_init_5 lmJ9_init rfl rfl q402 q403 (c_J9_init e) (hRet_oU _ _) rfl rfl rfl rfl (kOU k)
  refine V_aload0 eX5_init_8 (zrf_rf _) ?_
  refine V_iload1 eX5_init_9 ?_
  refine D_pI eX5_init_10 fq_X5_7_tN fn_X5_init_7 H (fun h H => ?_)
  obtain ⟨rfl, rfl, rfl, rfl⟩ := zrt_ok H
  exact V_return (x := ()) eX5_init_13 rfl ⟨rfl, rfl⟩
theorem fq_X1_24_tN : FQ RX1 24 f_X1_at tN := by
  intro k j e
  unfold f_X1_at at e
  split at e
  · cases e; exact ⟨fl_X1_24_1, rfl⟩
  · cases e
theorem fn_X1_number_24 : FN mX1_number 24 f_X1_at := by
  intro k j e
  unfold f_X1_at at e
  split at e
  · cases e; exact Or.inl rfl
  · cases e
def d_X1_number_94 (w : Wd) (F : Nat) (a1 : Int32) : M (Int32 ⊕ Nat) :=
  zrt (Sum.inl a1)
def B_X1_number_44 (w : Wd) (F : Nat) (k44 : Int32 → Int32 → M (Int32 ⊕ Nat)) (x : Nat) (a1 : Int32) (a2 : Int32) : M (Int32 ⊕ Nat) :=
  zif ((3 : Int32) ≤ a2) (d_X1_number_94 w F a1)
  (zif (a1 ≤ 0) (d_X1_number_94 w F a1)
  (zbd (zv1 1 (some x) (fun a => o_X1_isDigit w F a)) fun v6 =>
  zif (v6 = 0) (d_X1_number_94 w F a1)
  (zbd (zgR f_X1_this_0 (some x)) fun v7 =>
  zbd (zgR f_X0_tape v7) fun v8 =>
  zbd (zgI f_X1_at (some x)) fun v9 =>
  zbd (zpI f_X1_at (some x) (v9 + (1 : Int32))) fun _ =>
  zbd (zaI 2 v8 v9) fun v10 =>
  k44 ((((10 : Int32) * a1) + v10) - (48 : Int32)) (a2 + (1 : Int32)))))
def d_X1_number_44 (w : Wd) (F : Nat) (x : Nat) : Nat → Int32 → Int32 → M (Int32 ⊕ Nat)
  | 0, _, _ => zno
  | n + 1, a1, a2 => B_X1_number_44 w F (d_X1_number_44 w F x n) x a1 a2
def o_X1_number (w : Wd) (F : Nat) (x : Nat) : M (Int32 ⊕ Nat) :=
  zbd (zv1 1 (some x) (fun a => o_X1_isDigit w F a)) fun v1 =>
  zif (v1 = 0) (zbd (znw 5 0 7) fun n6 =>
  zbd (zgI f_X1_at (some x)) fun v7 =>
  zbd (znn n6 (fun a => o_X5_init w F a v7)) fun _ =>
  znn n6 (fun a => zrt (Sum.inr a)))
  (zbd (zgR f_X1_this_0 (some x)) fun v2 =>
  zbd (zgR f_X0_tape v2) fun v3 =>
  zbd (zgI f_X1_at (some x)) fun v4 =>
  zbd (zpI f_X1_at (some x) (v4 + (1 : Int32))) fun _ =>
  zbd (zaI 2 v3 v4) fun v5 =>
  d_X1_number_44 w F x F (v5 - (48 : Int32)) (1 : Int32))
theorem b_X1_number_94 {w : Wd} {F : Nat} {a1 : Int32} {h h1 : Hp} {y : (Int32 ⊕ Nat)} {c s : Nat} (H : d_X1_number_94 w F a1 h = some (y, h1, c, s)) : V w mX1_number cX1_number 4 c s h 94 [none, some (.int a1), none] [] (Ro (oX oI y) h1) := by
  unfold d_X1_number_94 at H
  refine V_iload1 eX1_number_94 ?_
  obtain ⟨rfl, rfl, rfl, rfl⟩ := zrt_ok H
  exact V_ireturn eX1_number_95 rfl ⟨rfl, rfl⟩
theorem bB_X1_number_44 {w : Wd} {F : Nat} {k44 : Int32 → Int32 → M (Int32 ⊕ Nat)} {x : Nat} (hk44 : ∀ (a1 : Int32) (a2 : Int32) (h : Hp) (y : (Int32 ⊕ Nat)) (h1 : Hp) (c s : Nat), k44 a1 a2 h = some (y, h1, c, s) → V w mX1_number cX1_number 4 c s h 44 [some (va_rf (some x)), some (.int a1), some (.int a2)] [] (Ro (oX oI y) h1)) {a1 : Int32} {a2 : Int32} {h h1 : Hp} {y : (Int32 ⊕ Nat)} {c s : Nat} (H : B_X1_number_44 w F k44 x a1 a2 h = some (y, h1, c, s)) : V w mX1_number cX1_number 4 c s h 44 [some (va_rf (some x)), some (.int a1), some (.int a2)] [] (Ro (oX oI y) h1) := by
  unfold B_X1_number_44 at H
  refine V_iload2 eX1_number_44 ?_
  refine V_iconst (v := 3) (by decide) eX1_number_45 ?_
  refine V_if_icmpge eX1_number_46 (fun q => ?_) (fun q => ?_)
  · have H := zif_t q H
    exact V_fg2 (b_X1_number_94 H) (zfg_n (zfg_k (zfg_n zfg_e)))
  · have H := zif_f q H
    refine V_iload1 eX1_number_49 ?_
    refine V_ifle eX1_number_50 (fun q => ?_) (fun q => ?_)
    · have H := zif_t q H
      exact V_fg2 (b_X1_number_94 H) (zfg_n (zfg_k (zfg_n zfg_e)))
    · have H := zif_f q H
      refine V_aload0 eX1_number_53 (zrf_rf _) ?_
      refine D_callI (pc' := 57) (st := []) H (fun v h' c1 s1 e cb sb k => ?_) (fun v6 h c s H => ?_)
      · obtain ⟨a, hr, ha, hk, e9⟩ := zv1_ok e
        cases hr
        exact V_invokevirtual (k := 1) eX1_number_54 lmX1_isDigit q476 q478 rfl rfl qs14 ha hk (c_X1_isDigit e9) (hRet_oI _ _) rfl rfl rfl rfl (kOI k)
      refine V_ifeq eX1_number_57 (fun q => ?_) (fun q => ?_)
      · have H := zif_t q H
        exact V_fg2 (b_X1_number_94 H) (zfg_n (zfg_k (zfg_n zfg_e)))
      · have H := zif_f q H
        refine V_bipush (v := 10) (by decide) eX1_number_60 ?_
        refine V_iload1 eX1_number_62 ?_
        refine V_imul eX1_number_63 ?_
        refine V_aload0 eX1_number_64 (zrf_rf _) ?_
        refine D_gR eX1_number_65 fq_X1_3_tR H (fun v7 H => ?_)
        refine D_gR eX1_number_68 fq_X1_31_tR H (fun v8 H => ?_)
        refine V_aload0 eX1_number_71 (zrf_rf _) ?_
        refine V_dup (zcr _) eX1_number_72 ?_
        refine D_gI eX1_number_73 fq_X1_24_tI H (fun v9 H => ?_)
        refine V_dup_x1 rfl (zcr _) eX1_number_76 ?_
        refine V_iconst (v := 1) (by decide) eX1_number_77 ?_
        refine V_iadd eX1_number_78 ?_
        refine D_pI eX1_number_79 fq_X1_24_tN fn_X1_number_24 H (fun h H => ?_)
        refine D_baload eX1_number_82 H (fun v10 H => ?_)
        refine V_iadd eX1_number_83 ?_
        refine V_bipush (v := 48) (by decide) eX1_number_84 ?_
        refine V_isub eX1_number_86 ?_
        refine V_istore1 (znl_rf _) eX1_number_87 rfl ?_
        refine V_iinc2 rfl eX1_number_88 rfl (v := 1) (by decide) ?_
        refine V_goto eX1_number_91 ?_
        exact V_fg2 (hk44 _ _ _ _ _ _ _ H) (zfg_k (zfg_k (zfg_k zfg_e)))
theorem b_X1_number_44 {w : Wd} {F : Nat} {x : Nat} : ∀ (n : Nat) (a1 : Int32) (a2 : Int32) (h : Hp) (y : (Int32 ⊕ Nat)) (h1 : Hp) (c s : Nat), d_X1_number_44 w F x n a1 a2 h = some (y, h1, c, s) → V w mX1_number cX1_number 4 c s h 44 [some (va_rf (some x)), some (.int a1), some (.int a2)] [] (Ro (oX oI y) h1) := by
  intro n
  induction n with
  | zero => intro a1 a2 h y h1 c s H; exact zno_no H
  | succ n ih => intro a1 a2 h y h1 c s H; exact bB_X1_number_44 ih H
theorem c_X1_number {w : Wd} {F : Nat} {x : Nat} {h h1 : Hp} {y : (Int32 ⊕ Nat)} {c s : Nat} (H : o_X1_number w F x h = some (y, h1, c, s)) : Con w mX1_number cX1_number 4 c s [.ref x] h (Ro (oX oI y) h1) := by
  unfold o_X1_number at H
  refine Con.of (ls := [some (va_rf (some x)), none, none]) (by decide +kernel) rfl rfl ?_
  refine V_aload0 eX1_number_0 (zrf_rf _) ?_
  refine D_callI (pc' := 4) (st := []) H (fun v h' c1 s1 e cb sb k => ?_) (fun v1 h c s H => ?_)
  · obtain ⟨a, hr, ha, hk, e9⟩ := zv1_ok e
    cases hr
    exact V_invokevirtual (k := 1) eX1_number_1 lmX1_isDigit q476 q478 rfl rfl qs14 ha hk (c_X1_isDigit e9) (hRet_oI _ _) rfl rfl rfl rfl (kOI k)
  refine V_ifne eX1_number_4 (fun q => ?_) (fun q => ?_)
  · have H := zif_f q H
    refine V_aload0 eX1_number_19 (zrf_rf _) ?_
    refine D_gR eX1_number_20 fq_X1_3_tR H (fun v2 H => ?_)
    refine D_gR eX1_number_23 fq_X1_31_tR H (fun v3 H => ?_)
    refine V_aload0 eX1_number_26 (zrf_rf _) ?_
    refine V_dup (zcr _) eX1_number_27 ?_
    refine D_gI eX1_number_28 fq_X1_24_tI H (fun v4 H => ?_)
    refine V_dup_x1 rfl (zcr _) eX1_number_31 ?_
    refine V_iconst (v := 1) (by decide) eX1_number_32 ?_
    refine V_iadd eX1_number_33 ?_
    refine D_pI eX1_number_34 fq_X1_24_tN fn_X1_number_24 H (fun h H => ?_)
    refine D_baload eX1_number_37 H (fun v5 H => ?_)
    refine V_bipush (v := 48) (by decide) eX1_number_38 ?_
    refine V_isub eX1_number_40 ?_
    refine V_istore1 (znl_rf _) eX1_number_41 rfl ?_
    refine V_iconst (v := 1) (by decide) eX1_number_42 ?_
    refine V_istore2 rfl eX1_number_43 rfl ?_
    exact V_fg2 (b_X1_number_44 _ _ _ _ _ _ _ _ H) (zfg_k (zfg_k (zfg_k zfg_e)))
  · have H := zif_t q H
    refine D_new (g := 0) eX1_number_7 nl_X1_39 rfl H (fun n6 h c s H => ?_)
    refine V_dup (zcr _) eX1_number_10 ?_
    refine V_aload0 eX1_number_11 (zrf_rf _) ?_
    refine D_gI eX1_number_12 fq_X1_24_tI H (fun v7 H => ?_)
    refine D_callU (pc' := 18) (st := [va_rf n6]) H (fun v h' c1 s1 e cb sb k => ?_) (fun v8 h c s H => ?_)
    · obtain ⟨a, hr, e9⟩ := znn_ok e
      cases hr
      exact V_invokeinit eX1_number_15 lmX5_init rfl rfl q399 q400 (c_X5_init e9) (hRet_oU _ _) rfl rfl rfl (by simp only [List.map_cons, List.map_nil, zcr]; rfl) (kOU k)
    obtain ⟨a9, hr9, H⟩ := znn_ok H
    cases hr9
    obtain ⟨rfl, rfl, rfl, rfl⟩ := zrt_ok H
    exact V_athrow eX1_number_18 rfl ⟨rfl, rfl⟩
def f_X1_open : Nat → Option Nat := fun k => match k with
  | 1 => some 3
  | _ => none
theorem fq_X1_61_tI : FQ RX1 61 f_X1_open tI := by
  intro k j e
  unfold f_X1_open at e
  split at e
  · cases e; exact ⟨fl_X1_61_1, Or.inl rfl⟩
  · cases e
theorem fq_X1_61_tN : FQ RX1 61 f_X1_open tN := by
  intro k j e
  unfold f_X1_open at e
  split at e
  · cases e; exact ⟨fl_X1_61_1, rfl⟩
  · cases e
theorem fn_X1_opens_61 : FN mX1_opens 61 f_X1_open := by
  intro k j e
  unfold f_X1_open at e
  split at e
  · cases e; exact Or.inl rfl
  · cases e
theorem fn_X1_opens_24 : FN mX1_opens 24 f_X1_at := by
  intro k j e
  unfold f_X1_at at e
  split at e
  · cases e; exact Or.inl rfl
  · cases e
def o_X1_opens (w : Wd) (F : Nat) (x : Nat) : M (Unit ⊕ Nat) :=
  zbd (zgI f_X1_open (some x)) fun v1 =>
  zif (v1 = (5 : Int32)) (zbd (znw 5 0 7) fun n4 =>
  zbd (zgI f_X1_at (some x)) fun v5 =>
  zbd (znn n4 (fun a => o_X5_init w F a v5)) fun _ =>
  znn n4 (fun a => zrt (Sum.inr a)))
  (zbd (zgI f_X1_open (some x)) fun v2 =>
  zbd (zpI f_X1_open (some x) (v2 + (1 : Int32))) fun _ =>
  zbd (zgI f_X1_at (some x)) fun v3 =>
  zbd (zpI f_X1_at (some x) (v3 + (1 : Int32))) fun _ =>
  zrt (Sum.inl ()))
theorem c_X1_opens {w : Wd} {F : Nat} {x : Nat} {h h1 : Hp} {y : (Unit ⊕ Nat)} {c s : Nat} (H : o_X1_opens w F x h = some (y, h1, c, s)) : Con w mX1_opens cX1_opens 4 c s [.ref x] h (Ro (oX oU y) h1) := by
  unfold o_X1_opens at H
  refine Con.of (ls := [some (va_rf (some x))]) (by decide +kernel) rfl rfl ?_
  refine V_aload0 eX1_opens_0 (zrf_rf _) ?_
  refine D_gI eX1_opens_1 fq_X1_61_tI H (fun v1 H => ?_)
  refine V_iconst (v := 5) (by decide) eX1_opens_4 ?_
  refine V_if_icmpne eX1_opens_5 (fun q => ?_) (fun q => ?_)
  · have H := zif_f q H
    refine V_aload0 eX1_opens_20 (zrf_rf _) ?_
    refine V_dup (zcr _) eX1_opens_21 ?_
    refine D_gI eX1_opens_22 fq_X1_61_tI H (fun v2 H => ?_)
    refine V_iconst (v := 1) (by decide) eX1_opens_25 ?_
    refine V_iadd eX1_opens_26 ?_
    refine D_pI eX1_opens_27 fq_X1_61_tN fn_X1_opens_61 H (fun h H => ?_)
    refine V_aload0 eX1_opens_30 (zrf_rf _) ?_
    refine V_dup (zcr _) eX1_opens_31 ?_
    refine D_gI eX1_opens_32 fq_X1_24_tI H (fun v3 H => ?_)
    refine V_iconst (v := 1) (by decide) eX1_opens_35 ?_
    refine V_iadd eX1_opens_36 ?_
    refine D_pI eX1_opens_37 fq_X1_24_tN fn_X1_opens_24 H (fun h H => ?_)
    obtain ⟨rfl, rfl, rfl, rfl⟩ := zrt_ok H
    exact V_return (x := ()) eX1_opens_40 rfl ⟨rfl, rfl⟩
  · have H := zif_t q H
    refine D_new (g := 0) eX1_opens_8 nl_X1_39 rfl H (fun n4 h c s H => ?_)
    refine V_dup (zcr _) eX1_opens_11 ?_
    refine V_aload0 eX1_opens_12 (zrf_rf _) ?_
    refine D_gI eX1_opens_13 fq_X1_24_tI H (fun v5 H => ?_)
    refine D_callU (pc' := 19) (st := [va_rf n4]) H (fun v h' c1 s1 e cb sb k => ?_) (fun v6 h c s H => ?_)
    · obtain ⟨a, hr, e9⟩ := znn_ok e
      cases hr
      exact V_invokeinit eX1_opens_16 lmX5_init rfl rfl q399 q400 (c_X5_init e9) (hRet_oU _ _) rfl rfl rfl (by simp only [List.map_cons, List.map_nil, zcr]; rfl) (kOU k)
    obtain ⟨a9, hr9, H⟩ := znn_ok H
    cases hr9
    obtain ⟨rfl, rfl, rfl, rfl⟩ := zrt_ok H
    exact V_athrow eX1_opens_19 rfl ⟨rfl, rfl⟩
theorem fn_X1_sign_24 : FN mX1_sign 24 f_X1_at := by
  intro k j e
  unfold f_X1_at at e
  split at e
  · cases e; exact Or.inl rfl
  · cases e
def o_X1_sign (w : Wd) (F : Nat) (x : Nat) (a1 : Int32) : M (Unit ⊕ Nat) :=
  zbd (zv1 1 (some x) (fun a => o_X1_next w F a)) fun v1 =>
  zif (v1 = a1) (zbd (zgI f_X1_at (some x)) fun v2 =>
  zbd (zpI f_X1_at (some x) (v2 + (1 : Int32))) fun _ =>
  zrt (Sum.inl ()))
  (zbd (znw 5 0 7) fun n3 =>
  zbd (zgI f_X1_at (some x)) fun v4 =>
  zbd (znn n3 (fun a => o_X5_init w F a v4)) fun _ =>
  znn n3 (fun a => zrt (Sum.inr a)))
theorem c_X1_sign {w : Wd} {F : Nat} {x : Nat} {a1 : Int32} {h h1 : Hp} {y : (Unit ⊕ Nat)} {c s : Nat} (H : o_X1_sign w F x a1 h = some (y, h1, c, s)) : Con w mX1_sign cX1_sign 4 c s [.ref x, .int a1] h (Ro (oX oU y) h1) := by
  unfold o_X1_sign at H
  refine Con.of (ls := [some (va_rf (some x)), some (.int a1)]) (by decide +kernel) rfl rfl ?_
  refine V_aload0 eX1_sign_0 (zrf_rf _) ?_
  refine D_callI (pc' := 4) (st := []) H (fun v h' c1 s1 e cb sb k => ?_) (fun v1 h c s H => ?_)
  · obtain ⟨a, hr, ha, hk, e9⟩ := zv1_ok e
    cases hr
    exact V_invokevirtual (k := 1) eX1_sign_1 lmX1_next q357 q359 rfl rfl qs7 ha hk (c_X1_next e9) (hRet_oI _ _) rfl rfl rfl rfl (kOI k)
  refine V_iload1 eX1_sign_4 ?_
  refine V_if_icmpeq eX1_sign_5 (fun q => ?_) (fun q => ?_)
  · have H := zif_t q H
    refine V_aload0 eX1_sign_20 (zrf_rf _) ?_
    refine V_dup (zcr _) eX1_sign_21 ?_
    refine D_gI eX1_sign_22 fq_X1_24_tI H (fun v2 H => ?_)
    refine V_iconst (v := 1) (by decide) eX1_sign_25 ?_
    refine V_iadd eX1_sign_26 ?_
    refine D_pI eX1_sign_27 fq_X1_24_tN fn_X1_sign_24 H (fun h H => ?_)
    obtain ⟨rfl, rfl, rfl, rfl⟩ := zrt_ok H
    exact V_return (x := ()) eX1_sign_30 rfl ⟨rfl, rfl⟩
  · have H := zif_f q H
    refine D_new (g := 0) eX1_sign_8 nl_X1_39 rfl H (fun n3 h c s H => ?_)
    refine V_dup (zcr _) eX1_sign_11 ?_
    refine V_aload0 eX1_sign_12 (zrf_rf _) ?_
    refine D_gI eX1_sign_13 fq_X1_24_tI H (fun v4 H => ?_)
    refine D_callU (pc' := 19) (st := [va_rf n3]) H (fun v h' c1 s1 e cb sb k => ?_) (fun v5 h c s H => ?_)
    · obtain ⟨a, hr, e9⟩ := znn_ok e
      cases hr
      exact V_invokeinit eX1_sign_16 lmX5_init rfl rfl q399 q400 (c_X5_init e9) (hRet_oU _ _) rfl rfl rfl (by simp only [List.map_cons, List.map_nil, zcr]; rfl) (kOU k)
    obtain ⟨a9, hr9, H⟩ := znn_ok H
    cases hr9
    obtain ⟨rfl, rfl, rfl, rfl⟩ := zrt_ok H
    exact V_athrow eX1_sign_19 rfl ⟨rfl, rfl⟩
def o_X7_init (w : Wd) (F : Nat) (x : Nat) : M Unit :=
  zrt ()
theorem c_X7_init {w : Wd} {F : Nat} {x : Nat} {h h1 : Hp} {y : Unit} {c s : Nat} (H : o_X7_init w F x h = some (y, h1, c, s)) : Con w mX7_init cX7_init 1 c s [.ref x] h (Ro (oU y) h1) := by
  unfold o_X7_init at H
  refine Con.of (ls := [some (va_rf (some x))]) (by decide +kernel) rfl rfl ?_
  refine V_aload0 eX7_init_0 (zrf_rf _) ?_
  refine V_objectinit eX7_init_1 q451 q180 q181 rfl rfl ?_
  obtain ⟨rfl, rfl, rfl, rfl⟩ := zrt_ok H
  exact V_return (x := ()) eX7_init_4 rfl ⟨rfl, rfl⟩
def f_X8_of : Nat → Option Nat := fun k => match k with
  | 8 => some 0
  | _ => none
theorem fq_X8_7_tR : FQ RX8 7 f_X8_of tR := by
  intro k j e
  unfold f_X8_of at e
  split at e
  · cases e; exact ⟨fl_X8_7_8, Or.inl ⟨_, rfl⟩⟩
  · cases e
theorem fn_X8_init_7 : FN mX8_init 7 f_X8_of := by
  intro k j e
  unfold f_X8_of at e
  split at e
  · cases e; exact Or.inr ⟨rfl, rfl, rfl, _, q452, rfl⟩
  · cases e
def o_X8_init (w : Wd) (F : Nat) (x : Nat) (a1 : Option Nat) : M Unit :=
  zbd (o_X7_init w F x) fun _ =>
  zbd (zpR f_X8_of (some x) a1) fun _ =>
  zrt ()
theorem c_X8_init {w : Wd} {F : Nat} {x : Nat} {a1 : Option Nat} {h h1 : Hp} {y : Unit} {c s : Nat} (H : o_X8_init w F x a1 h = some (y, h1, c, s)) : Con w mX8_init cX8_init 2 c s [.ref x, va_rf a1] h (Ro (oU y) h1) := by
  unfold o_X8_init at H
  refine Con.of (ls := [some (va_rf (some x)), some (va_rf a1)]) (by decide +kernel) (by simp only [zsl_r, zsl_i, zsl_l, zsl_n, zsl_a]; rfl) (by simp only [zar_r, zar_i, zar_l, zar_n, zar_a]; rfl) ?_
  refine V_aload0 eX8_init_0 (zrf_rf _) ?_
  refine D_callU (pc' := 4) (st := []) H (fun v h' c1 s1 e cb sb k => ?_) (fun v1 h c s H => ?_)
  · exact V_invokeinitN eX8_init_1 lmX7_init rfl rfl q448 q449 (c_X7_init e) (hRet_oU _ _) rfl rfl rfl rfl (kOU k)
  refine V_aload0 eX8_init_4 (zrf_rf _) ?_
  refine V_aload1 eX8_init_5 (zrf_rf _) ?_
  refine D_pR eX8_init_6 fq_X8_7_tR fn_X8_init_7 H (fun h H => ?_)
  obtain ⟨rfl, rfl, rfl, rfl⟩ := zrt_ok H
  exact V_return (x := ()) eX8_init_9 rfl ⟨rfl, rfl⟩
def f_X9_which : Nat → Option Nat := fun k => match k with
  | 9 => some 0
  | _ => none
theorem fq_X9_7_tN : FQ RX9 7 f_X9_which tN := by
  intro k j e
  unfold f_X9_which at e
  split at e
  · cases e; exact ⟨fl_X9_7_9, rfl⟩
  · cases e
theorem fn_X9_init_7 : FN mX9_init 7 f_X9_which := by
  intro k j e
  unfold f_X9_which at e
  split at e
  · cases e; exact Or.inr ⟨rfl, rfl, rfl, _, q462, rfl⟩
  · cases e
def f_X9_op : Nat → Option Nat := fun k => match k with
  | 9 => some 1
  | _ => none
theorem fq_X9_13_tN : FQ RX9 13 f_X9_op tN := by
  intro k j e
  unfold f_X9_op at e
  split at e
  · cases e; exact ⟨fl_X9_13_9, rfl⟩
  · cases e
theorem fn_X9_init_13 : FN mX9_init 13 f_X9_op := by
  intro k j e
  unfold f_X9_op at e
  split at e
  · cases e; exact Or.inr ⟨rfl, rfl, rfl, _, q463, rfl⟩
  · cases e
def f_X9_number : Nat → Option Nat := fun k => match k with
  | 9 => some 2
  | _ => none
theorem fq_X9_16_tN : FQ RX9 16 f_X9_number tN := by
  intro k j e
  unfold f_X9_number at e
  split at e
  · cases e; exact ⟨fl_X9_16_9, rfl⟩
  · cases e
theorem fn_X9_init_16 : FN mX9_init 16 f_X9_number := by
  intro k j e
  unfold f_X9_number at e
  split at e
  · cases e; exact Or.inr ⟨rfl, rfl, rfl, _, q464, rfl⟩
  · cases e
def o_X9_init (w : Wd) (F : Nat) (x : Nat) (a1 : Int32) (a2 : Int32) (a3 : Int32) : M Unit :=
  zbd (o_X7_init w F x) fun _ =>
  zbd (zpI f_X9_which (some x) a1) fun _ =>
  zbd (zpI f_X9_op (some x) a2) fun _ =>
  zbd (zpI f_X9_number (some x) a3) fun _ =>
  zrt ()
theorem c_X9_init {w : Wd} {F : Nat} {x : Nat} {a1 : Int32} {a2 : Int32} {a3 : Int32} {h h1 : Hp} {y : Unit} {c s : Nat} (H : o_X9_init w F x a1 a2 a3 h = some (y, h1, c, s)) : Con w mX9_init cX9_init 2 c s [.ref x, .int a1, .int a2, .int a3] h (Ro (oU y) h1) := by
  unfold o_X9_init at H
  refine Con.of (ls := [some (va_rf (some x)), some (.int a1), some (.int a2), some (.int a3)]) (by decide +kernel) rfl rfl ?_
  refine V_aload0 eX9_init_0 (zrf_rf _) ?_
  refine D_callU (pc' := 4) (st := []) H (fun v h' c1 s1 e cb sb k => ?_) (fun v1 h c s H => ?_)
  · exact V_invokeinitN eX9_init_1 lmX7_init rfl rfl q461 q449 (c_X7_init e) (hRet_oU _ _) rfl rfl rfl rfl (kOU k)
  refine V_aload0 eX9_init_4 (zrf_rf _) ?_
  refine V_iload1 eX9_init_5 ?_
  refine D_pI eX9_init_6 fq_X9_7_tN fn_X9_init_7 H (fun h H => ?_)
  refine V_aload0 eX9_init_9 (zrf_rf _) ?_
  refine V_iload2 eX9_init_10 ?_
  refine D_pI eX9_init_11 fq_X9_13_tN fn_X9_init_13 H (fun h H => ?_)
  refine V_aload0 eX9_init_14 (zrf_rf _) ?_
  refine V_iload3 eX9_init_15 ?_
  refine D_pI eX9_init_16 fq_X9_16_tN fn_X9_init_16 H (fun h H => ?_)
  obtain ⟨rfl, rfl, rfl, rfl⟩ := zrt_ok H
  exact V_return (x := ()) eX9_init_19 rfl ⟨rfl, rfl⟩
def f_X10_first : Nat → Option Nat := fun k => match k with
  | 10 => some 0
  | 11 => some 0
  | _ => none
theorem fq_X10_7_tR : FQ RX10 7 f_X10_first tR := by
  intro k j e
  unfold f_X10_first at e
  split at e
  · cases e; exact ⟨fl_X10_7_10, Or.inl ⟨_, rfl⟩⟩
  · cases e; exact ⟨fl_X10_7_11, Or.inl ⟨_, rfl⟩⟩
  · cases e
theorem fn_X10_init_7 : FN mX10_init 7 f_X10_first := by
  intro k j e
  unfold f_X10_first at e
  split at e
  · cases e; exact Or.inr ⟨rfl, rfl, rfl, _, q486, rfl⟩
  · cases e; exact Or.inr ⟨rfl, rfl, rfl, _, q486, rfl⟩
  · cases e
def f_X10_second : Nat → Option Nat := fun k => match k with
  | 10 => some 1
  | 11 => some 1
  | _ => none
theorem fq_X10_13_tR : FQ RX10 13 f_X10_second tR := by
  intro k j e
  unfold f_X10_second at e
  split at e
  · cases e; exact ⟨fl_X10_13_10, Or.inl ⟨_, rfl⟩⟩
  · cases e; exact ⟨fl_X10_13_11, Or.inl ⟨_, rfl⟩⟩
  · cases e
theorem fn_X10_init_13 : FN mX10_init 13 f_X10_second := by
  intro k j e
  unfold f_X10_second at e
  split at e
  · cases e; exact Or.inr ⟨rfl, rfl, rfl, _, q489, rfl⟩
  · cases e; exact Or.inr ⟨rfl, rfl, rfl, _, q489, rfl⟩
  · cases e
def o_X10_init (w : Wd) (F : Nat) (x : Nat) (a1 : Option Nat) (a2 : Option Nat) : M Unit :=
  zbd (o_X7_init w F x) fun _ =>
  zbd (zpR f_X10_first (some x) a1) fun _ =>
  zbd (zpR f_X10_second (some x) a2) fun _ =>
  zrt ()
theorem c_X10_init {w : Wd} {F : Nat} {x : Nat} {a1 : Option Nat} {a2 : Option Nat} {h h1 : Hp} {y : Unit} {c s : Nat} (H : o_X10_init w F x a1 a2 h = some (y, h1, c, s)) : Con w mX10_init cX10_init 2 c s [.ref x, va_rf a1, va_rf a2] h (Ro (oU y) h1) := by
  unfold o_X10_init at H
  refine Con.of (ls := [some (va_rf (some x)), some (va_rf a1), some (va_rf a2)]) (by decide +kernel) (by simp only [zsl_r, zsl_i, zsl_l, zsl_n, zsl_a]; rfl) (by simp only [zar_r, zar_i, zar_l, zar_n, zar_a]; rfl) ?_
  refine V_aload0 eX10_init_0 (zrf_rf _) ?_
  refine D_callU (pc' := 4) (st := []) H (fun v h' c1 s1 e cb sb k => ?_) (fun v1 h c s H => ?_)
  · exact V_invokeinitN eX10_init_1 lmX7_init rfl rfl q485 q449 (c_X7_init e) (hRet_oU _ _) rfl rfl rfl rfl (kOU k)
  refine V_aload0 eX10_init_4 (zrf_rf _) ?_
  refine V_aload1 eX10_init_5 (zrf_rf _) ?_
  refine D_pR eX10_init_6 fq_X10_7_tR fn_X10_init_7 H (fun h H => ?_)
  refine V_aload0 eX10_init_9 (zrf_rf _) ?_
  refine V_aload2 eX10_init_10 (zrf_rf _) ?_
  refine D_pR eX10_init_11 fq_X10_13_tR fn_X10_init_13 H (fun h H => ?_)
  obtain ⟨rfl, rfl, rfl, rfl⟩ := zrt_ok H
  exact V_return (x := ()) eX10_init_14 rfl ⟨rfl, rfl⟩
def o_X11_init (w : Wd) (F : Nat) (x : Nat) (a1 : Option Nat) (a2 : Option Nat) : M Unit :=
  zbd (o_X10_init w F x a1 a2) fun _ =>
  zrt ()
theorem c_X11_init {w : Wd} {F : Nat} {x : Nat} {a1 : Option Nat} {a2 : Option Nat} {h h1 : Hp} {y : Unit} {c s : Nat} (H : o_X11_init w F x a1 a2 h = some (y, h1, c, s)) : Con w mX11_init cX11_init 3 c s [.ref x, va_rf a1, va_rf a2] h (Ro (oU y) h1) := by
  unfold o_X11_init at H
  refine Con.of (ls := [some (va_rf (some x)), some (va_rf a1), some (va_rf a2)]) (by decide +kernel) (by simp only [zsl_r, zsl_i, zsl_l, zsl_n, zsl_a]; rfl) (by simp only [zar_r, zar_i, zar_l, zar_n, zar_a]; rfl) ?_
  refine V_aload0 eX11_init_0 (zrf_rf _) ?_
  refine V_aload1 eX11_init_1 (zrf_rf _) ?_
  refine V_aload2 eX11_init_2 (zrf_rf _) ?_
  refine D_callU (pc' := 6) (st := []) H (fun v h' c1 s1 e cb sb k => ?_) (fun v1 h c s H => ?_)
  · exact V_invokeinit eX11_init_3 lmX10_init rfl rfl q502 q483 (c_X10_init e) (hRet_oU _ _) rfl rfl rfl rfl (kOU k)
  obtain ⟨rfl, rfl, rfl, rfl⟩ := zrt_ok H
  exact V_return (x := ()) eX11_init_6 rfl ⟨rfl, rfl⟩
theorem fn_X1_both_24 : FN mX1_both 24 f_X1_at := by
  intro k j e
  unfold f_X1_at at e
  split at e
  · cases e; exact Or.inl rfl
  · cases e
def B_X1_both_5 (w : Wd) (F : Nat) (rX1_fact : Nat → M (Option Nat ⊕ Nat)) (k5 : Option Nat → M (Option Nat ⊕ Nat)) (x : Nat) (a1 : Option Nat) : M (Option Nat ⊕ Nat) :=
  zbd (zv1 1 (some x) (fun a => o_X1_next w F a)) fun v4 =>
  zif (v4 = (38 : Int32)) (zbd (zgI f_X1_at (some x)) fun v5 =>
  zbd (zpI f_X1_at (some x) (v5 + (1 : Int32))) fun _ =>
  zbd (znw 10 0 2) fun n6 =>
  zbd (zv1 1 (some x) (fun a => rX1_fact a)) fun r => zsm r (fun v8 =>
  zbd (znn n6 (fun a => o_X10_init w F a a1 v8)) fun _ =>
  k5 n6)
  (fun t9 => zrt (Sum.inr t9)))
  (zrt (Sum.inl a1))
def d_X1_both_5 (w : Wd) (F : Nat) (rX1_fact : Nat → M (Option Nat ⊕ Nat)) (x : Nat) : Nat → Option Nat → M (Option Nat ⊕ Nat)
  | 0, _ => zno
  | n + 1, a1 => B_X1_both_5 w F rX1_fact (d_X1_both_5 w F rX1_fact x n) x a1
def o_X1_both (w : Wd) (F : Nat) (rX1_fact : Nat → M (Option Nat ⊕ Nat)) (x : Nat) : M (Option Nat ⊕ Nat) :=
  zbd (zv1 1 (some x) (fun a => rX1_fact a)) fun r => zsm r (fun v2 =>
  d_X1_both_5 w F rX1_fact x F v2)
  (fun t3 => zrt (Sum.inr t3))
theorem bB_X1_both_5 {w : Wd} {F L0 k0 : Nat} {rX1_fact : Nat → M (Option Nat ⊕ Nat)} (hrX1_fact : ∀ {x : Nat} {h h1 : Hp} {y : Option Nat ⊕ Nat} {c s : Nat}, rX1_fact x h = some (y, h1, c, s) → Con w mX1_fact cX1_fact L0 c s [.ref x] h (Ro (oX oR y) h1)) {k5 : Option Nat → M (Option Nat ⊕ Nat)} {x : Nat} (hk5 : ∀ (a1 : Option Nat) (h : Hp) (y : (Option Nat ⊕ Nat)) (h1 : Hp) (c s : Nat), k5 a1 h = some (y, h1, c, s) → V w mX1_both cX1_both (L0 + (k0 + 8)) c s h 5 [some (va_rf (some x)), some (va_rf a1)] [] (Ro (oX oR y) h1)) {a1 : Option Nat} {h h1 : Hp} {y : (Option Nat ⊕ Nat)} {c s : Nat} (H : B_X1_both_5 w F rX1_fact k5 x a1 h = some (y, h1, c, s)) : V w mX1_both cX1_both (L0 + (k0 + 8)) c s h 5 [some (va_rf (some x)), some (va_rf a1)] [] (Ro (oX oR y) h1) := by
  unfold B_X1_both_5 at H
  refine V_aload0 eX1_both_5 (zrf_rf _) ?_
  refine D_callI (pc' := 9) (st := []) H (fun v h' c1 s1 e cb sb k => ?_) (fun v4 h c s H => ?_)
  · obtain ⟨a, hr, ha, hk, e9⟩ := zv1_ok e
    cases hr
    exact V_invokevirtual (k := 1) eX1_both_6 lmX1_next q357 q359 rfl rfl qs7 ha hk (c_X1_next e9) (hRet_oI _ _) (zlt (by omega)) rfl rfl rfl (kOI k)
  refine V_bipush (v := 38) (by decide) eX1_both_9 ?_
  refine V_if_icmpne eX1_both_11 (fun q => ?_) (fun q => ?_)
  · have H := zif_f q H
    refine V_aload1 eX1_both_40 (zrf_rf _) ?_
    obtain ⟨rfl, rfl, rfl, rfl⟩ := zrt_ok H
    exact V_areturn eX1_both_41 rfl (Or.inl ⟨_, rfl⟩) ⟨rfl, rfl⟩
  · have H := zif_t q H
    refine V_aload0 eX1_both_14 (zrf_rf _) ?_
    refine V_dup (zcr _) eX1_both_15 ?_
    refine D_gI eX1_both_16 fq_X1_24_tI H (fun v5 H => ?_)
    refine V_iconst (v := 1) (by decide) eX1_both_19 ?_
    refine V_iadd eX1_both_20 ?_
    refine D_pI eX1_both_21 fq_X1_24_tN fn_X1_both_24 H (fun h H => ?_)
    refine D_new (g := 0) eX1_both_24 nl_X1_87 rfl H (fun n6 h c s H => ?_)
    refine V_dup (zcr _) eX1_both_27 ?_
    refine V_aload1 eX1_both_28 (zrf_rf _) ?_
    refine V_aload0 eX1_both_29 (zrf_rf _) ?_
    refine D_callXR (pc' := 33) (st := [va_rf a1, va_rf n6, va_rf n6]) H (fun v h' c1 s1 e cb sb k => ?_) (fun t h' c1 s1 e cb sb k => ?_) (fun v8 h c s H => ?_) (fun t9 h c s H => ?_)
    · obtain ⟨a, hr, ha, hk, e9⟩ := zv1_ok e
      cases hr
      exact V_invokevirtual (k := 1) eX1_both_30 lmX1_fact q435 q437 rfl rfl qs11 ha hk (hrX1_fact e9) (hRet_oR _ _) (zlt (by omega)) rfl rfl (by simp only [List.map_cons, List.map_nil, zcr]; rfl) (kOR k)
    · obtain ⟨a, hr, ha, hk, e9⟩ := zv1_ok e
      cases hr
      exact V_invokevirtualX (k := 1) eX1_both_30 lmX1_fact q435 q437 rfl rfl qs11 ha hk (hrX1_fact e9) (zlt (by omega)) rfl rfl (by simp only [List.map_cons, List.map_nil, zcr]; rfl) k
    · skip
      refine D_callU (pc' := 36) (st := [va_rf n6]) H (fun v h' c1 s1 e cb sb k => ?_) (fun v10 h c s H => ?_)
      · obtain ⟨a, hr, e9⟩ := znn_ok e
        cases hr
        exact V_invokeinit eX1_both_33 lmX10_init rfl rfl q482 q483 (c_X10_init e9) (hRet_oU _ _) (zlt (by omega)) rfl rfl (by simp only [List.map_cons, List.map_nil, zcr]; rfl) (kOU k)
      refine V_astore1 (znl_rf _) eX1_both_36 rfl (zrf_rf _) ?_
      refine V_goto eX1_both_37 ?_
      exact V_fg2 (hk5 _ _ _ _ _ _ H) (zfg_k (zfg_k zfg_e))
    · obtain ⟨rfl, rfl, rfl, rfl⟩ := zrt_ok H
      exact VX_out rfl ⟨rfl, rfl⟩
theorem b_X1_both_5 {w : Wd} {F L0 k0 : Nat} {rX1_fact : Nat → M (Option Nat ⊕ Nat)} (hrX1_fact : ∀ {x : Nat} {h h1 : Hp} {y : Option Nat ⊕ Nat} {c s : Nat}, rX1_fact x h = some (y, h1, c, s) → Con w mX1_fact cX1_fact L0 c s [.ref x] h (Ro (oX oR y) h1)) {x : Nat} : ∀ (n : Nat) (a1 : Option Nat) (h : Hp) (y : (Option Nat ⊕ Nat)) (h1 : Hp) (c s : Nat), d_X1_both_5 w F rX1_fact x n a1 h = some (y, h1, c, s) → V w mX1_both cX1_both (L0 + (k0 + 8)) c s h 5 [some (va_rf (some x)), some (va_rf a1)] [] (Ro (oX oR y) h1) := by
  intro n
  induction n with
  | zero => intro a1 h y h1 c s H; exact zno_no H
  | succ n ih => intro a1 h y h1 c s H; exact bB_X1_both_5 hrX1_fact ih H
theorem c_X1_both {w : Wd} {F L0 k0 : Nat} {rX1_fact : Nat → M (Option Nat ⊕ Nat)} (hrX1_fact : ∀ {x : Nat} {h h1 : Hp} {y : Option Nat ⊕ Nat} {c s : Nat}, rX1_fact x h = some (y, h1, c, s) → Con w mX1_fact cX1_fact L0 c s [.ref x] h (Ro (oX oR y) h1)) {x : Nat} {h h1 : Hp} {y : (Option Nat ⊕ Nat)} {c s : Nat} (H : o_X1_both w F rX1_fact x h = some (y, h1, c, s)) : Con w mX1_both cX1_both (L0 + (k0 + 8)) c s [.ref x] h (Ro (oX oR y) h1) := by
  unfold o_X1_both at H
  refine Con.of (ls := [some (va_rf (some x)), none]) (by decide +kernel) rfl rfl ?_
  refine V_aload0 eX1_both_0 (zrf_rf _) ?_
  refine D_callXR (pc' := 4) (st := []) H (fun v h' c1 s1 e cb sb k => ?_) (fun t h' c1 s1 e cb sb k => ?_) (fun v2 h c s H => ?_) (fun t3 h c s H => ?_)
  · obtain ⟨a, hr, ha, hk, e9⟩ := zv1_ok e
    cases hr
    exact V_invokevirtual (k := 1) eX1_both_1 lmX1_fact q435 q437 rfl rfl qs11 ha hk (hrX1_fact e9) (hRet_oR _ _) (zlt (by omega)) rfl rfl rfl (kOR k)
  · obtain ⟨a, hr, ha, hk, e9⟩ := zv1_ok e
    cases hr
    exact V_invokevirtualX (k := 1) eX1_both_1 lmX1_fact q435 q437 rfl rfl qs11 ha hk (hrX1_fact e9) (zlt (by omega)) rfl rfl rfl k
  · skip
    refine V_astore1 (znl_rf _) eX1_both_4 rfl (zrf_rf _) ?_
    exact V_fg2 (b_X1_both_5 hrX1_fact _ _ _ _ _ _ _ H) (zfg_k (zfg_k zfg_e))
  · obtain ⟨rfl, rfl, rfl, rfl⟩ := zrt_ok H
    exact VX_out rfl ⟨rfl, rfl⟩
theorem fn_X1_either_24 : FN mX1_either 24 f_X1_at := by
  intro k j e
  unfold f_X1_at at e
  split at e
  · cases e; exact Or.inl rfl
  · cases e
def B_X1_either_5 (w : Wd) (F : Nat) (rX1_fact : Nat → M (Option Nat ⊕ Nat)) (k5 : Option Nat → M (Option Nat ⊕ Nat)) (x : Nat) (a1 : Option Nat) : M (Option Nat ⊕ Nat) :=
  zbd (zv1 1 (some x) (fun a => o_X1_next w F a)) fun v4 =>
  zif (v4 = (124 : Int32)) (zbd (zgI f_X1_at (some x)) fun v5 =>
  zbd (zpI f_X1_at (some x) (v5 + (1 : Int32))) fun _ =>
  zbd (znw 11 0 2) fun n6 =>
  zbd (zv1 1 (some x) (fun a => o_X1_both w F rX1_fact a)) fun r => zsm r (fun v8 =>
  zbd (znn n6 (fun a => o_X11_init w F a a1 v8)) fun _ =>
  k5 n6)
  (fun t9 => zrt (Sum.inr t9)))
  (zrt (Sum.inl a1))
def d_X1_either_5 (w : Wd) (F : Nat) (rX1_fact : Nat → M (Option Nat ⊕ Nat)) (x : Nat) : Nat → Option Nat → M (Option Nat ⊕ Nat)
  | 0, _ => zno
  | n + 1, a1 => B_X1_either_5 w F rX1_fact (d_X1_either_5 w F rX1_fact x n) x a1
def o_X1_either (w : Wd) (F : Nat) (rX1_fact : Nat → M (Option Nat ⊕ Nat)) (x : Nat) : M (Option Nat ⊕ Nat) :=
  zbd (zv1 1 (some x) (fun a => o_X1_both w F rX1_fact a)) fun r => zsm r (fun v2 =>
  d_X1_either_5 w F rX1_fact x F v2)
  (fun t3 => zrt (Sum.inr t3))
theorem bB_X1_either_5 {w : Wd} {F L0 k0 : Nat} {rX1_fact : Nat → M (Option Nat ⊕ Nat)} (hrX1_fact : ∀ {x : Nat} {h h1 : Hp} {y : Option Nat ⊕ Nat} {c s : Nat}, rX1_fact x h = some (y, h1, c, s) → Con w mX1_fact cX1_fact L0 c s [.ref x] h (Ro (oX oR y) h1)) {k5 : Option Nat → M (Option Nat ⊕ Nat)} {x : Nat} (hk5 : ∀ (a1 : Option Nat) (h : Hp) (y : (Option Nat ⊕ Nat)) (h1 : Hp) (c s : Nat), k5 a1 h = some (y, h1, c, s) → V w mX1_either cX1_either (L0 + (k0 + 16)) c s h 5 [some (va_rf (some x)), some (va_rf a1)] [] (Ro (oX oR y) h1)) {a1 : Option Nat} {h h1 : Hp} {y : (Option Nat ⊕ Nat)} {c s : Nat} (H : B_X1_either_5 w F rX1_fact k5 x a1 h = some (y, h1, c, s)) : V w mX1_either cX1_either (L0 + (k0 + 16)) c s h 5 [some (va_rf (some x)), some (va_rf a1)] [] (Ro (oX oR y) h1) := by
  unfold B_X1_either_5 at H
  refine V_aload0 eX1_either_5 (zrf_rf _) ?_
  refine D_callI (pc' := 9) (st := []) H (fun v h' c1 s1 e cb sb k => ?_) (fun v4 h c s H => ?_)
  · obtain ⟨a, hr, ha, hk, e9⟩ := zv1_ok e
    cases hr
    exact V_invokevirtual (k := 1) eX1_either_6 lmX1_next q357 q359 rfl rfl qs7 ha hk (c_X1_next e9) (hRet_oI _ _) (zlt (by omega)) rfl rfl rfl (kOI k)
  refine V_bipush (v := 124) (by decide) eX1_either_9 ?_
  refine V_if_icmpne eX1_either_11 (fun q => ?_) (fun q => ?_)
  · have H := zif_f q H
    refine V_aload1 eX1_either_40 (zrf_rf _) ?_
    obtain ⟨rfl, rfl, rfl, rfl⟩ := zrt_ok H
    exact V_areturn eX1_either_41 rfl (Or.inl ⟨_, rfl⟩) ⟨rfl, rfl⟩
  · have H := zif_t q H
    refine V_aload0 eX1_either_14 (zrf_rf _) ?_
    refine V_dup (zcr _) eX1_either_15 ?_
    refine D_gI eX1_either_16 fq_X1_24_tI H (fun v5 H => ?_)
    refine V_iconst (v := 1) (by decide) eX1_either_19 ?_
    refine V_iadd eX1_either_20 ?_
    refine D_pI eX1_either_21 fq_X1_24_tN fn_X1_either_24 H (fun h H => ?_)
    refine D_new (g := 0) eX1_either_24 nl_X1_95 rfl H (fun n6 h c s H => ?_)
    refine V_dup (zcr _) eX1_either_27 ?_
    refine V_aload1 eX1_either_28 (zrf_rf _) ?_
    refine V_aload0 eX1_either_29 (zrf_rf _) ?_
    refine D_callXR (pc' := 33) (st := [va_rf a1, va_rf n6, va_rf n6]) H (fun v h' c1 s1 e cb sb k => ?_) (fun t h' c1 s1 e cb sb k => ?_) (fun v8 h c s H => ?_) (fun t9 h c s H => ?_)
    · obtain ⟨a, hr, ha, hk, e9⟩ := zv1_ok e
      cases hr
      exact V_invokevirtual (k := 1) eX1_either_30 lmX1_both q431 q433 rfl rfl qs10 ha hk (c_X1_both (k0 := 0) hrX1_fact e9) (hRet_oR _ _) (zlt (by omega)) rfl rfl (by simp only [List.map_cons, List.map_nil, zcr]; rfl) (kOR k)
    · obtain ⟨a, hr, ha, hk, e9⟩ := zv1_ok e
      cases hr
      exact V_invokevirtualX (k := 1) eX1_either_30 lmX1_both q431 q433 rfl rfl qs10 ha hk (c_X1_both (k0 := 0) hrX1_fact e9) (zlt (by omega)) rfl rfl (by simp only [List.map_cons, List.map_nil, zcr]; rfl) k
    · skip
      refine D_callU (pc' := 36) (st := [va_rf n6]) H (fun v h' c1 s1 e cb sb k => ?_) (fun v10 h c s H => ?_)
      · obtain ⟨a, hr, e9⟩ := znn_ok e
        cases hr
        exact V_invokeinit eX1_either_33 lmX11_init rfl rfl q499 q500 (c_X11_init e9) (hRet_oU _ _) (zlt (by omega)) rfl rfl (by simp only [List.map_cons, List.map_nil, zcr]; rfl) (kOU k)
      refine V_astore1 (znl_rf _) eX1_either_36 rfl (zrf_rf _) ?_
      refine V_goto eX1_either_37 ?_
      exact V_fg2 (hk5 _ _ _ _ _ _ H) (zfg_k (zfg_k zfg_e))
    · obtain ⟨rfl, rfl, rfl, rfl⟩ := zrt_ok H
      exact VX_out rfl ⟨rfl, rfl⟩
theorem b_X1_either_5 {w : Wd} {F L0 k0 : Nat} {rX1_fact : Nat → M (Option Nat ⊕ Nat)} (hrX1_fact : ∀ {x : Nat} {h h1 : Hp} {y : Option Nat ⊕ Nat} {c s : Nat}, rX1_fact x h = some (y, h1, c, s) → Con w mX1_fact cX1_fact L0 c s [.ref x] h (Ro (oX oR y) h1)) {x : Nat} : ∀ (n : Nat) (a1 : Option Nat) (h : Hp) (y : (Option Nat ⊕ Nat)) (h1 : Hp) (c s : Nat), d_X1_either_5 w F rX1_fact x n a1 h = some (y, h1, c, s) → V w mX1_either cX1_either (L0 + (k0 + 16)) c s h 5 [some (va_rf (some x)), some (va_rf a1)] [] (Ro (oX oR y) h1) := by
  intro n
  induction n with
  | zero => intro a1 h y h1 c s H; exact zno_no H
  | succ n ih => intro a1 h y h1 c s H; exact bB_X1_either_5 hrX1_fact ih H
theorem c_X1_either {w : Wd} {F L0 k0 : Nat} {rX1_fact : Nat → M (Option Nat ⊕ Nat)} (hrX1_fact : ∀ {x : Nat} {h h1 : Hp} {y : Option Nat ⊕ Nat} {c s : Nat}, rX1_fact x h = some (y, h1, c, s) → Con w mX1_fact cX1_fact L0 c s [.ref x] h (Ro (oX oR y) h1)) {x : Nat} {h h1 : Hp} {y : (Option Nat ⊕ Nat)} {c s : Nat} (H : o_X1_either w F rX1_fact x h = some (y, h1, c, s)) : Con w mX1_either cX1_either (L0 + (k0 + 16)) c s [.ref x] h (Ro (oX oR y) h1) := by
  unfold o_X1_either at H
  refine Con.of (ls := [some (va_rf (some x)), none]) (by decide +kernel) rfl rfl ?_
  refine V_aload0 eX1_either_0 (zrf_rf _) ?_
  refine D_callXR (pc' := 4) (st := []) H (fun v h' c1 s1 e cb sb k => ?_) (fun t h' c1 s1 e cb sb k => ?_) (fun v2 h c s H => ?_) (fun t3 h c s H => ?_)
  · obtain ⟨a, hr, ha, hk, e9⟩ := zv1_ok e
    cases hr
    exact V_invokevirtual (k := 1) eX1_either_1 lmX1_both q431 q433 rfl rfl qs10 ha hk (c_X1_both (k0 := 0) hrX1_fact e9) (hRet_oR _ _) (zlt (by omega)) rfl rfl rfl (kOR k)
  · obtain ⟨a, hr, ha, hk, e9⟩ := zv1_ok e
    cases hr
    exact V_invokevirtualX (k := 1) eX1_either_1 lmX1_both q431 q433 rfl rfl qs10 ha hk (c_X1_both (k0 := 0) hrX1_fact e9) (zlt (by omega)) rfl rfl rfl k
  · skip
    refine V_astore1 (znl_rf _) eX1_either_4 rfl (zrf_rf _) ?_
    exact V_fg2 (b_X1_either_5 hrX1_fact _ _ _ _ _ _ _ H) (zfg_k (zfg_k zfg_e))
  · obtain ⟨rfl, rfl, rfl, rfl⟩ := zrt_ok H
    exact VX_out rfl ⟨rfl, rfl⟩
def f_X1_letters : Nat → Option Nat := fun k => match k with
  | 1 => some 1
  | _ => none
theorem fq_X1_21_tR : FQ RX1 21 f_X1_letters tR := by
  intro k j e
  unfold f_X1_letters at e
  split at e
  · cases e; exact ⟨fl_X1_21_1, Or.inr ⟨_, rfl⟩⟩
  · cases e
theorem fn_X1_fact_24 : FN mX1_fact 24 f_X1_at := by
  intro k j e
  unfold f_X1_at at e
  split at e
  · cases e; exact Or.inl rfl
  · cases e
theorem fn_X1_fact_61 : FN mX1_fact 61 f_X1_open := by
  intro k j e
  unfold f_X1_open at e
  split at e
  · cases e; exact Or.inl rfl
  · cases e
def d_X1_fact_248 (w : Wd) (F : Nat) (rX1_fact : Nat → M (Option Nat ⊕ Nat)) (x : Nat) (a2 : Int32) (a3 : Int32) : M (Option Nat ⊕ Nat) :=
  zbd (zgI f_X1_at (some x)) fun v8 =>
  zbd (zpI f_X1_at (some x) (v8 + (1 : Int32))) fun _ =>
  zbd (znw 9 0 3) fun n9 =>
  zbd (zv1 1 (some x) (fun a => o_X1_number w F a)) fun r => zsm r (fun v11 =>
  zbd (znn n9 (fun a => o_X9_init w F a a2 a3 v11)) fun _ =>
  zrt (Sum.inl n9))
  (fun t12 => zrt (Sum.inr t12))
def d_X1_fact_188 (w : Wd) (F : Nat) (rX1_fact : Nat → M (Option Nat ⊕ Nat)) (x : Nat) (a2 : Int32) : M (Option Nat ⊕ Nat) :=
  zbd (zgR f_X1_letters (some x)) fun v4 =>
  zbd (zal v4) fun v5 =>
  zif (a2 = v5) (zbd (znw 5 0 7) fun n11 =>
  zbd (zgI f_X1_at (some x)) fun v12 =>
  zbd (znn n11 (fun a => o_X5_init w F a v12)) fun _ =>
  znn n11 (fun a => zrt (Sum.inr a)))
  (zbd (zgI f_X1_at (some x)) fun v6 =>
  zbd (zpI f_X1_at (some x) (v6 + (1 : Int32))) fun _ =>
  zbd (zv1 1 (some x) (fun a => o_X1_next w F a)) fun v7 =>
  zif (v7 = (60 : Int32)) (d_X1_fact_248 w F rX1_fact x a2 v7)
  (zif (v7 = (62 : Int32)) (d_X1_fact_248 w F rX1_fact x a2 v7)
  (zbd (znw 5 0 7) fun n8 =>
  zbd (zgI f_X1_at (some x)) fun v9 =>
  zbd (znn n8 (fun a => o_X5_init w F a v9)) fun _ =>
  znn n8 (fun a => zrt (Sum.inr a)))))
def B_X1_fact_163 (w : Wd) (F : Nat) (rX1_fact : Nat → M (Option Nat ⊕ Nat)) (k163 : Int32 → M (Option Nat ⊕ Nat)) (x : Nat) (a1 : Int32) (a2 : Int32) : M (Option Nat ⊕ Nat) :=
  zbd (zgR f_X1_letters (some x)) fun v2 =>
  zbd (zal v2) fun v3 =>
  zif (v3 ≤ a2) (d_X1_fact_188 w F rX1_fact x a2)
  (zbd (zgR f_X1_letters (some x)) fun v4 =>
  zbd (zaI 4 v4 a2) fun v5 =>
  zif (v5 = a1) (d_X1_fact_188 w F rX1_fact x a2)
  (k163 (a2 + (1 : Int32))))
def d_X1_fact_163 (w : Wd) (F : Nat) (rX1_fact : Nat → M (Option Nat ⊕ Nat)) (x : Nat) (a1 : Int32) : Nat → Int32 → M (Option Nat ⊕ Nat)
  | 0, _ => zno
  | n + 1, a2 => B_X1_fact_163 w F rX1_fact (d_X1_fact_163 w F rX1_fact x a1 n) x a1 a2
def d_X1_fact_124 (w : Wd) (F : Nat) (rX1_fact : Nat → M (Option Nat ⊕ Nat)) (x : Nat) : M (Option Nat ⊕ Nat) :=
  zbd (znw 9 0 3) fun n7 =>
  zbd (zgR f_X1_letters (some x)) fun v8 =>
  zbd (zal v8) fun v9 =>
  zbd (zgR f_X1_this_0 (some x)) fun v10 =>
  zbd (zgR f_X0_tape v10) fun v11 =>
  zbd (zgI f_X1_at (some x)) fun v12 =>
  zbd (zpI f_X1_at (some x) (v12 + (1 : Int32))) fun _ =>
  zbd (zaI 2 v11 v12) fun v13 =>
  zbd (znn n7 (fun a => o_X9_init w F a v9 (61 : Int32) (v13 - (48 : Int32)))) fun _ =>
  zrt (Sum.inl n7)
def o_X1_fact (w : Wd) (F : Nat) (rX1_fact : Nat → M (Option Nat ⊕ Nat)) (x : Nat) : M (Option Nat ⊕ Nat) :=
  zbd (zv1 1 (some x) (fun a => o_X1_next w F a)) fun v1 =>
  zif (v1 = (33 : Int32)) (zbd (zv1 1 (some x) (fun a => o_X1_opens w F a)) fun r => zsm r (fun _ =>
  zbd (zv1 1 (some x) (fun a => rX1_fact a)) fun r => zsm r (fun v25 =>
  zbd (zgI f_X1_open (some x)) fun v27 =>
  zbd (zpI f_X1_open (some x) (v27 - (1 : Int32))) fun _ =>
  zbd (znw 8 0 1) fun n28 =>
  zbd (znn n28 (fun a => o_X8_init w F a v25)) fun _ =>
  zrt (Sum.inl n28))
  (fun t26 => zrt (Sum.inr t26)))
  (fun t23 => zrt (Sum.inr t23)))
  (zif (v1 = (40 : Int32)) (zbd (zv1 1 (some x) (fun a => o_X1_opens w F a)) fun r => zsm r (fun _ =>
  zbd (zv1 1 (some x) (fun a => o_X1_either w F rX1_fact a)) fun r => zsm r (fun v15 =>
  zbd (zv1 1 (some x) (fun a => o_X1_sign w F a (41 : Int32))) fun r => zsm r (fun _ =>
  zbd (zgI f_X1_open (some x)) fun v20 =>
  zbd (zpI f_X1_open (some x) (v20 - (1 : Int32))) fun _ =>
  zrt (Sum.inl v15))
  (fun t19 => zrt (Sum.inr t19)))
  (fun t16 => zrt (Sum.inr t16)))
  (fun t13 => zrt (Sum.inr t13)))
  (zif (v1 = (103 : Int32)) (zbd (zgI f_X1_at (some x)) fun v2 =>
  zbd (zpI f_X1_at (some x) (v2 + (1 : Int32))) fun _ =>
  zbd (zv1 1 (some x) (fun a => o_X1_sign w F a (61 : Int32))) fun r => zsm r (fun _ =>
  zbd (zv1 1 (some x) (fun a => o_X1_next w F a)) fun v6 =>
  zif (v6 = (48 : Int32)) (d_X1_fact_124 w F rX1_fact x)
  (zbd (zv1 1 (some x) (fun a => o_X1_next w F a)) fun v7 =>
  zif (v7 = (49 : Int32)) (d_X1_fact_124 w F rX1_fact x)
  (zbd (znw 5 0 7) fun n8 =>
  zbd (zgI f_X1_at (some x)) fun v9 =>
  zbd (znn n8 (fun a => o_X5_init w F a v9)) fun _ =>
  znn n8 (fun a => zrt (Sum.inr a)))))
  (fun t5 => zrt (Sum.inr t5)))
  (d_X1_fact_163 w F rX1_fact x v1 F (0 : Int32))))
theorem b_X1_fact_248 {w : Wd} {F L0 k0 : Nat} {rX1_fact : Nat → M (Option Nat ⊕ Nat)} (hrX1_fact : ∀ {x : Nat} {h h1 : Hp} {y : Option Nat ⊕ Nat} {c s : Nat}, rX1_fact x h = some (y, h1, c, s) → Con w mX1_fact cX1_fact L0 c s [.ref x] h (Ro (oX oR y) h1)) {x : Nat} {a2 : Int32} {a3 : Int32} {h h1 : Hp} {y : (Option Nat ⊕ Nat)} {c s : Nat} (H : d_X1_fact_248 w F rX1_fact x a2 a3 h = some (y, h1, c, s)) : V w mX1_fact cX1_fact (L0 + (k0 + 32)) c s h 248 [some (va_rf (some x)), none, some (.int a2), some (.int a3)] [] (Ro (oX oR y) h1) := by
  unfold d_X1_fact_248 at H
  refine V_aload0 eX1_fact_248 (zrf_rf _) ?_
  refine V_dup (zcr _) eX1_fact_249 ?_
  refine D_gI eX1_fact_250 fq_X1_24_tI H (fun v8 H => ?_)
  refine V_iconst (v := 1) (by decide) eX1_fact_253 ?_
  refine V_iadd eX1_fact_254 ?_
  refine D_pI eX1_fact_255 fq_X1_24_tN fn_X1_fact_24 H (fun h H => ?_)
  refine D_new (g := 0) eX1_fact_258 nl_X1_79 rfl H (fun n9 h c s H => ?_)
  refine V_dup (zcr _) eX1_fact_261 ?_
  refine V_iload2 eX1_fact_262 ?_
  refine V_iload3 eX1_fact_263 ?_
  refine V_aload0 eX1_fact_264 (zrf_rf _) ?_
  refine D_callXI (pc' := 268) (st := [.int a3, .int a2, va_rf n9, va_rf n9]) H (fun v h' c1 s1 e cb sb k => ?_) (fun t h' c1 s1 e cb sb k => ?_) (fun v11 h c s H => ?_) (fun t12 h c s H => ?_)
  · obtain ⟨a, hr, ha, hk, e9⟩ := zv1_ok e
    cases hr
    exact V_invokevirtual (k := 1) eX1_fact_265 lmX1_number q472 q474 rfl rfl qs13 ha hk (c_X1_number e9) (hRet_oI _ _) (zlt (by omega)) rfl rfl (by simp only [List.map_cons, List.map_nil, zcr]; rfl) (kOI k)
  · obtain ⟨a, hr, ha, hk, e9⟩ := zv1_ok e
    cases hr
    exact V_invokevirtualX (k := 1) eX1_fact_265 lmX1_number q472 q474 rfl rfl qs13 ha hk (c_X1_number e9) (zlt (by omega)) rfl rfl (by simp only [List.map_cons, List.map_nil, zcr]; rfl) k
  · skip
    refine D_callU (pc' := 271) (st := [va_rf n9]) H (fun v h' c1 s1 e cb sb k => ?_) (fun v13 h c s H => ?_)
    · obtain ⟨a, hr, e9⟩ := znn_ok e
      cases hr
      exact V_invokeinit eX1_fact_268 lmX9_init rfl rfl q458 q459 (c_X9_init e9) (hRet_oU _ _) (zlt (by omega)) rfl rfl (by simp only [List.map_cons, List.map_nil, zcr]; rfl) (kOU k)
    obtain ⟨rfl, rfl, rfl, rfl⟩ := zrt_ok H
    exact V_areturn eX1_fact_271 rfl (Or.inl ⟨_, rfl⟩) ⟨rfl, rfl⟩
  · obtain ⟨rfl, rfl, rfl, rfl⟩ := zrt_ok H
    exact VX_out rfl ⟨rfl, rfl⟩
theorem b_X1_fact_188 {w : Wd} {F L0 k0 : Nat} {rX1_fact : Nat → M (Option Nat ⊕ Nat)} (hrX1_fact : ∀ {x : Nat} {h h1 : Hp} {y : Option Nat ⊕ Nat} {c s : Nat}, rX1_fact x h = some (y, h1, c, s) → Con w mX1_fact cX1_fact L0 c s [.ref x] h (Ro (oX oR y) h1)) {x : Nat} {a2 : Int32} {h h1 : Hp} {y : (Option Nat ⊕ Nat)} {c s : Nat} (H : d_X1_fact_188 w F rX1_fact x a2 h = some (y, h1, c, s)) : V w mX1_fact cX1_fact (L0 + (k0 + 32)) c s h 188 [some (va_rf (some x)), none, some (.int a2), none] [] (Ro (oX oR y) h1) := by
  unfold d_X1_fact_188 at H
  refine V_iload2 eX1_fact_188 ?_
  refine V_aload0 eX1_fact_189 (zrf_rf _) ?_
  refine D_gR eX1_fact_190 fq_X1_21_tR H (fun v4 H => ?_)
  refine D_arraylength eX1_fact_193 H (fun v5 H => ?_)
  refine V_if_icmpne eX1_fact_194 (fun q => ?_) (fun q => ?_)
  · have H := zif_f q H
    refine V_aload0 eX1_fact_209 (zrf_rf _) ?_
    refine V_dup (zcr _) eX1_fact_210 ?_
    refine D_gI eX1_fact_211 fq_X1_24_tI H (fun v6 H => ?_)
    refine V_iconst (v := 1) (by decide) eX1_fact_214 ?_
    refine V_iadd eX1_fact_215 ?_
    refine D_pI eX1_fact_216 fq_X1_24_tN fn_X1_fact_24 H (fun h H => ?_)
    refine V_aload0 eX1_fact_219 (zrf_rf _) ?_
    refine D_callI (pc' := 223) (st := []) H (fun v h' c1 s1 e cb sb k => ?_) (fun v7 h c s H => ?_)
    · obtain ⟨a, hr, ha, hk, e9⟩ := zv1_ok e
      cases hr
      exact V_invokevirtual (k := 1) eX1_fact_220 lmX1_next q357 q359 rfl rfl qs7 ha hk (c_X1_next e9) (hRet_oI _ _) (zlt (by omega)) rfl rfl rfl (kOI k)
    refine V_istore3 rfl eX1_fact_223 rfl ?_
    refine V_iload3 eX1_fact_224 ?_
    refine V_bipush (v := 60) (by decide) eX1_fact_225 ?_
    refine V_if_icmpeq eX1_fact_227 (fun q => ?_) (fun q => ?_)
    · have H := zif_t q H
      exact V_fg2 (b_X1_fact_248 hrX1_fact H) (zfg_k (zfg_n (zfg_k (zfg_k zfg_e))))
    · have H := zif_f q H
      refine V_iload3 eX1_fact_230 ?_
      refine V_bipush (v := 62) (by decide) eX1_fact_231 ?_
      refine V_if_icmpeq eX1_fact_233 (fun q => ?_) (fun q => ?_)
      · have H := zif_t q H
        exact V_fg2 (b_X1_fact_248 hrX1_fact H) (zfg_k (zfg_n (zfg_k (zfg_k zfg_e))))
      · have H := zif_f q H
        refine D_new (g := 0) eX1_fact_236 nl_X1_39 rfl H (fun n8 h c s H => ?_)
        refine V_dup (zcr _) eX1_fact_239 ?_
        refine V_aload0 eX1_fact_240 (zrf_rf _) ?_
        refine D_gI eX1_fact_241 fq_X1_24_tI H (fun v9 H => ?_)
        refine D_callU (pc' := 247) (st := [va_rf n8]) H (fun v h' c1 s1 e cb sb k => ?_) (fun v10 h c s H => ?_)
        · obtain ⟨a, hr, e9⟩ := znn_ok e
          cases hr
          exact V_invokeinit eX1_fact_244 lmX5_init rfl rfl q399 q400 (c_X5_init e9) (hRet_oU _ _) (zlt (by omega)) rfl rfl (by simp only [List.map_cons, List.map_nil, zcr]; rfl) (kOU k)
        obtain ⟨a9, hr9, H⟩ := znn_ok H
        cases hr9
        obtain ⟨rfl, rfl, rfl, rfl⟩ := zrt_ok H
        exact V_athrow eX1_fact_247 rfl ⟨rfl, rfl⟩
  · have H := zif_t q H
    refine D_new (g := 0) eX1_fact_197 nl_X1_39 rfl H (fun n11 h c s H => ?_)
    refine V_dup (zcr _) eX1_fact_200 ?_
    refine V_aload0 eX1_fact_201 (zrf_rf _) ?_
    refine D_gI eX1_fact_202 fq_X1_24_tI H (fun v12 H => ?_)
    refine D_callU (pc' := 208) (st := [va_rf n11]) H (fun v h' c1 s1 e cb sb k => ?_) (fun v13 h c s H => ?_)
    · obtain ⟨a, hr, e9⟩ := znn_ok e
      cases hr
      exact V_invokeinit eX1_fact_205 lmX5_init rfl rfl q399 q400 (c_X5_init e9) (hRet_oU _ _) (zlt (by omega)) rfl rfl (by simp only [List.map_cons, List.map_nil, zcr]; rfl) (kOU k)
    obtain ⟨a9, hr9, H⟩ := znn_ok H
    cases hr9
    obtain ⟨rfl, rfl, rfl, rfl⟩ := zrt_ok H
    exact V_athrow eX1_fact_208 rfl ⟨rfl, rfl⟩
theorem bB_X1_fact_163 {w : Wd} {F L0 k0 : Nat} {rX1_fact : Nat → M (Option Nat ⊕ Nat)} (hrX1_fact : ∀ {x : Nat} {h h1 : Hp} {y : Option Nat ⊕ Nat} {c s : Nat}, rX1_fact x h = some (y, h1, c, s) → Con w mX1_fact cX1_fact L0 c s [.ref x] h (Ro (oX oR y) h1)) {k163 : Int32 → M (Option Nat ⊕ Nat)} {x : Nat} {a1 : Int32} (hk163 : ∀ (a2 : Int32) (h : Hp) (y : (Option Nat ⊕ Nat)) (h1 : Hp) (c s : Nat), k163 a2 h = some (y, h1, c, s) → V w mX1_fact cX1_fact (L0 + (k0 + 32)) c s h 163 [some (va_rf (some x)), some (.int a1), some (.int a2), none] [] (Ro (oX oR y) h1)) {a2 : Int32} {h h1 : Hp} {y : (Option Nat ⊕ Nat)} {c s : Nat} (H : B_X1_fact_163 w F rX1_fact k163 x a1 a2 h = some (y, h1, c, s)) : V w mX1_fact cX1_fact (L0 + (k0 + 32)) c s h 163 [some (va_rf (some x)), some (.int a1), some (.int a2), none] [] (Ro (oX oR y) h1) := by
  unfold B_X1_fact_163 at H
  refine V_iload2 eX1_fact_163 ?_
  refine V_aload0 eX1_fact_164 (zrf_rf _) ?_
  refine D_gR eX1_fact_165 fq_X1_21_tR H (fun v2 H => ?_)
  refine D_arraylength eX1_fact_168 H (fun v3 H => ?_)
  refine V_if_icmpge eX1_fact_169 (fun q => ?_) (fun q => ?_)
  · have H := zif_t q H
    exact V_fg2 (b_X1_fact_188 hrX1_fact H) (zfg_k (zfg_n (zfg_k (zfg_n zfg_e))))
  · have H := zif_f q H
    refine V_aload0 eX1_fact_172 (zrf_rf _) ?_
    refine D_gR eX1_fact_173 fq_X1_21_tR H (fun v4 H => ?_)
    refine V_iload2 eX1_fact_176 ?_
    refine D_caload eX1_fact_177 H (fun v5 H => ?_)
    refine V_iload1 eX1_fact_178 ?_
    refine V_if_icmpeq eX1_fact_179 (fun q => ?_) (fun q => ?_)
    · have H := zif_t q H
      exact V_fg2 (b_X1_fact_188 hrX1_fact H) (zfg_k (zfg_n (zfg_k (zfg_n zfg_e))))
    · have H := zif_f q H
      refine V_iinc2 rfl eX1_fact_182 rfl (v := 1) (by decide) ?_
      refine V_goto eX1_fact_185 ?_
      exact V_fg2 (hk163 _ _ _ _ _ _ H) (zfg_k (zfg_k (zfg_k (zfg_n zfg_e))))
theorem b_X1_fact_163 {w : Wd} {F L0 k0 : Nat} {rX1_fact : Nat → M (Option Nat ⊕ Nat)} (hrX1_fact : ∀ {x : Nat} {h h1 : Hp} {y : Option Nat ⊕ Nat} {c s : Nat}, rX1_fact x h = some (y, h1, c, s) → Con w mX1_fact cX1_fact L0 c s [.ref x] h (Ro (oX oR y) h1)) {x : Nat} {a1 : Int32} : ∀ (n : Nat) (a2 : Int32) (h : Hp) (y : (Option Nat ⊕ Nat)) (h1 : Hp) (c s : Nat), d_X1_fact_163 w F rX1_fact x a1 n a2 h = some (y, h1, c, s) → V w mX1_fact cX1_fact (L0 + (k0 + 32)) c s h 163 [some (va_rf (some x)), some (.int a1), some (.int a2), none] [] (Ro (oX oR y) h1) := by
  intro n
  induction n with
  | zero => intro a2 h y h1 c s H; exact zno_no H
  | succ n ih => intro a2 h y h1 c s H; exact bB_X1_fact_163 hrX1_fact ih H
theorem b_X1_fact_124 {w : Wd} {F L0 k0 : Nat} {rX1_fact : Nat → M (Option Nat ⊕ Nat)} (hrX1_fact : ∀ {x : Nat} {h h1 : Hp} {y : Option Nat ⊕ Nat} {c s : Nat}, rX1_fact x h = some (y, h1, c, s) → Con w mX1_fact cX1_fact L0 c s [.ref x] h (Ro (oX oR y) h1)) {x : Nat} {h h1 : Hp} {y : (Option Nat ⊕ Nat)} {c s : Nat} (H : d_X1_fact_124 w F rX1_fact x h = some (y, h1, c, s)) : V w mX1_fact cX1_fact (L0 + (k0 + 32)) c s h 124 [some (va_rf (some x)), none, none, none] [] (Ro (oX oR y) h1) := by
  unfold d_X1_fact_124 at H
  refine D_new (g := 0) eX1_fact_124 nl_X1_79 rfl H (fun n7 h c s H => ?_)
  refine V_dup (zcr _) eX1_fact_127 ?_
  refine V_aload0 eX1_fact_128 (zrf_rf _) ?_
  refine D_gR eX1_fact_129 fq_X1_21_tR H (fun v8 H => ?_)
  refine D_arraylength eX1_fact_132 H (fun v9 H => ?_)
  refine V_bipush (v := 61) (by decide) eX1_fact_133 ?_
  refine V_aload0 eX1_fact_135 (zrf_rf _) ?_
  refine D_gR eX1_fact_136 fq_X1_3_tR H (fun v10 H => ?_)
  refine D_gR eX1_fact_139 fq_X1_31_tR H (fun v11 H => ?_)
  refine V_aload0 eX1_fact_142 (zrf_rf _) ?_
  refine V_dup (zcr _) eX1_fact_143 ?_
  refine D_gI eX1_fact_144 fq_X1_24_tI H (fun v12 H => ?_)
  refine V_dup_x1 rfl (zcr _) eX1_fact_147 ?_
  refine V_iconst (v := 1) (by decide) eX1_fact_148 ?_
  refine V_iadd eX1_fact_149 ?_
  refine D_pI eX1_fact_150 fq_X1_24_tN fn_X1_fact_24 H (fun h H => ?_)
  refine D_baload eX1_fact_153 H (fun v13 H => ?_)
  refine V_bipush (v := 48) (by decide) eX1_fact_154 ?_
  refine V_isub eX1_fact_156 ?_
  refine D_callU (pc' := 160) (st := [va_rf n7]) H (fun v h' c1 s1 e cb sb k => ?_) (fun v14 h c s H => ?_)
  · obtain ⟨a, hr, e9⟩ := znn_ok e
    cases hr
    exact V_invokeinit eX1_fact_157 lmX9_init rfl rfl q458 q459 (c_X9_init e9) (hRet_oU _ _) (zlt (by omega)) rfl rfl (by simp only [List.map_cons, List.map_nil, zcr]; rfl) (kOU k)
  obtain ⟨rfl, rfl, rfl, rfl⟩ := zrt_ok H
  exact V_areturn eX1_fact_160 rfl (Or.inl ⟨_, rfl⟩) ⟨rfl, rfl⟩
theorem c_X1_fact {w : Wd} {F L0 k0 : Nat} {rX1_fact : Nat → M (Option Nat ⊕ Nat)} (hrX1_fact : ∀ {x : Nat} {h h1 : Hp} {y : Option Nat ⊕ Nat} {c s : Nat}, rX1_fact x h = some (y, h1, c, s) → Con w mX1_fact cX1_fact L0 c s [.ref x] h (Ro (oX oR y) h1)) {x : Nat} {h h1 : Hp} {y : (Option Nat ⊕ Nat)} {c s : Nat} (H : o_X1_fact w F rX1_fact x h = some (y, h1, c, s)) : Con w mX1_fact cX1_fact (L0 + (k0 + 32)) c s [.ref x] h (Ro (oX oR y) h1) := by
  unfold o_X1_fact at H
  refine Con.of (ls := [some (va_rf (some x)), none, none, none]) (by decide +kernel) rfl rfl ?_
  refine V_aload0 eX1_fact_0 (zrf_rf _) ?_
  refine D_callI (pc' := 4) (st := []) H (fun v h' c1 s1 e cb sb k => ?_) (fun v1 h c s H => ?_)
  · obtain ⟨a, hr, ha, hk, e9⟩ := zv1_ok e
    cases hr
    exact V_invokevirtual (k := 1) eX1_fact_1 lmX1_next q357 q359 rfl rfl qs7 ha hk (c_X1_next e9) (hRet_oI _ _) (zlt (by omega)) rfl rfl rfl (kOI k)
  refine V_istore1 (znl_rf _) eX1_fact_4 rfl ?_
  refine V_iload1 eX1_fact_5 ?_
  refine V_bipush (v := 33) (by decide) eX1_fact_6 ?_
  refine V_if_icmpne eX1_fact_8 (fun q => ?_) (fun q => ?_)
  · have H := zif_f q H
    refine V_iload1 eX1_fact_39 ?_
    refine V_bipush (v := 40) (by decide) eX1_fact_40 ?_
    refine V_if_icmpne eX1_fact_42 (fun q => ?_) (fun q => ?_)
    · have H := zif_f q H
      refine V_iload1 eX1_fact_72 ?_
      refine V_bipush (v := 103) (by decide) eX1_fact_73 ?_
      refine V_if_icmpne eX1_fact_75 (fun q => ?_) (fun q => ?_)
      · have H := zif_f q H
        refine V_iconst (v := 0) (by decide) eX1_fact_161 ?_
        refine V_istore2 rfl eX1_fact_162 rfl ?_
        exact V_fg2 (b_X1_fact_163 hrX1_fact _ _ _ _ _ _ _ H) (zfg_k (zfg_k (zfg_k (zfg_n zfg_e))))
      · have H := zif_t q H
        refine V_aload0 eX1_fact_78 (zrf_rf _) ?_
        refine V_dup (zcr _) eX1_fact_79 ?_
        refine D_gI eX1_fact_80 fq_X1_24_tI H (fun v2 H => ?_)
        refine V_iconst (v := 1) (by decide) eX1_fact_83 ?_
        refine V_iadd eX1_fact_84 ?_
        refine D_pI eX1_fact_85 fq_X1_24_tN fn_X1_fact_24 H (fun h H => ?_)
        refine V_aload0 eX1_fact_88 (zrf_rf _) ?_
        refine V_bipush (v := 61) (by decide) eX1_fact_89 ?_
        refine D_callXU (pc' := 94) (st := []) H (fun v h' c1 s1 e cb sb k => ?_) (fun t h' c1 s1 e cb sb k => ?_) (fun v4 h c s H => ?_) (fun t5 h c s H => ?_)
        · obtain ⟨a, hr, ha, hk, e9⟩ := zv1_ok e
          cases hr
          exact V_invokevirtual (k := 1) eX1_fact_91 lmX1_sign q353 q355 rfl rfl qs6 ha hk (c_X1_sign e9) (hRet_oU () _) (zlt (by omega)) rfl rfl rfl (kOU (x := ()) k)
        · obtain ⟨a, hr, ha, hk, e9⟩ := zv1_ok e
          cases hr
          exact V_invokevirtualX (k := 1) eX1_fact_91 lmX1_sign q353 q355 rfl rfl qs6 ha hk (c_X1_sign e9) (zlt (by omega)) rfl rfl rfl k
        · skip
          refine V_aload0 eX1_fact_94 (zrf_rf _) ?_
          refine D_callI (pc' := 98) (st := []) H (fun v h' c1 s1 e cb sb k => ?_) (fun v6 h c s H => ?_)
          · obtain ⟨a, hr, ha, hk, e9⟩ := zv1_ok e
            cases hr
            exact V_invokevirtual (k := 1) eX1_fact_95 lmX1_next q357 q359 rfl rfl qs7 ha hk (c_X1_next e9) (hRet_oI _ _) (zlt (by omega)) rfl rfl rfl (kOI k)
          refine V_bipush (v := 48) (by decide) eX1_fact_98 ?_
          refine V_if_icmpeq eX1_fact_100 (fun q => ?_) (fun q => ?_)
          · have H := zif_t q H
            exact V_fg2 (b_X1_fact_124 hrX1_fact H) (zfg_k (zfg_n (zfg_n (zfg_n zfg_e))))
          · have H := zif_f q H
            refine V_aload0 eX1_fact_103 (zrf_rf _) ?_
            refine D_callI (pc' := 107) (st := []) H (fun v h' c1 s1 e cb sb k => ?_) (fun v7 h c s H => ?_)
            · obtain ⟨a, hr, ha, hk, e9⟩ := zv1_ok e
              cases hr
              exact V_invokevirtual (k := 1) eX1_fact_104 lmX1_next q357 q359 rfl rfl qs7 ha hk (c_X1_next e9) (hRet_oI _ _) (zlt (by omega)) rfl rfl rfl (kOI k)
            refine V_bipush (v := 49) (by decide) eX1_fact_107 ?_
            refine V_if_icmpeq eX1_fact_109 (fun q => ?_) (fun q => ?_)
            · have H := zif_t q H
              exact V_fg2 (b_X1_fact_124 hrX1_fact H) (zfg_k (zfg_n (zfg_n (zfg_n zfg_e))))
            · have H := zif_f q H
              refine D_new (g := 0) eX1_fact_112 nl_X1_39 rfl H (fun n8 h c s H => ?_)
              refine V_dup (zcr _) eX1_fact_115 ?_
              refine V_aload0 eX1_fact_116 (zrf_rf _) ?_
              refine D_gI eX1_fact_117 fq_X1_24_tI H (fun v9 H => ?_)
              refine D_callU (pc' := 123) (st := [va_rf n8]) H (fun v h' c1 s1 e cb sb k => ?_) (fun v10 h c s H => ?_)
              · obtain ⟨a, hr, e9⟩ := znn_ok e
                cases hr
                exact V_invokeinit eX1_fact_120 lmX5_init rfl rfl q399 q400 (c_X5_init e9) (hRet_oU _ _) (zlt (by omega)) rfl rfl (by simp only [List.map_cons, List.map_nil, zcr]; rfl) (kOU k)
              obtain ⟨a9, hr9, H⟩ := znn_ok H
              cases hr9
              obtain ⟨rfl, rfl, rfl, rfl⟩ := zrt_ok H
              exact V_athrow eX1_fact_123 rfl ⟨rfl, rfl⟩
        · obtain ⟨rfl, rfl, rfl, rfl⟩ := zrt_ok H
          exact VX_out rfl ⟨rfl, rfl⟩
    · have H := zif_t q H
      refine V_aload0 eX1_fact_45 (zrf_rf _) ?_
      refine D_callXU (pc' := 49) (st := []) H (fun v h' c1 s1 e cb sb k => ?_) (fun t h' c1 s1 e cb sb k => ?_) (fun v12 h c s H => ?_) (fun t13 h c s H => ?_)
      · obtain ⟨a, hr, ha, hk, e9⟩ := zv1_ok e
        cases hr
        exact V_invokevirtual (k := 1) eX1_fact_46 lmX1_opens q439 q441 rfl rfl qs12 ha hk (c_X1_opens e9) (hRet_oU () _) (zlt (by omega)) rfl rfl rfl (kOU (x := ()) k)
      · obtain ⟨a, hr, ha, hk, e9⟩ := zv1_ok e
        cases hr
        exact V_invokevirtualX (k := 1) eX1_fact_46 lmX1_opens q439 q441 rfl rfl qs12 ha hk (c_X1_opens e9) (zlt (by omega)) rfl rfl rfl k
      · skip
        refine V_aload0 eX1_fact_49 (zrf_rf _) ?_
        refine D_callXR (pc' := 53) (st := []) H (fun v h' c1 s1 e cb sb k => ?_) (fun t h' c1 s1 e cb sb k => ?_) (fun v15 h c s H => ?_) (fun t16 h c s H => ?_)
        · obtain ⟨a, hr, ha, hk, e9⟩ := zv1_ok e
          cases hr
          exact V_invokevirtual (k := 1) eX1_fact_50 lmX1_either q427 q429 rfl rfl qs9 ha hk (c_X1_either (k0 := 0) hrX1_fact e9) (hRet_oR _ _) (zlt (by omega)) rfl rfl rfl (kOR k)
        · obtain ⟨a, hr, ha, hk, e9⟩ := zv1_ok e
          cases hr
          exact V_invokevirtualX (k := 1) eX1_fact_50 lmX1_either q427 q429 rfl rfl qs9 ha hk (c_X1_either (k0 := 0) hrX1_fact e9) (zlt (by omega)) rfl rfl rfl k
        · skip
          refine V_astore2 rfl eX1_fact_53 rfl (zrf_rf _) ?_
          refine V_aload0 eX1_fact_54 (zrf_rf _) ?_
          refine V_bipush (v := 41) (by decide) eX1_fact_55 ?_
          refine D_callXU (pc' := 60) (st := []) H (fun v h' c1 s1 e cb sb k => ?_) (fun t h' c1 s1 e cb sb k => ?_) (fun v18 h c s H => ?_) (fun t19 h c s H => ?_)
          · obtain ⟨a, hr, ha, hk, e9⟩ := zv1_ok e
            cases hr
            exact V_invokevirtual (k := 1) eX1_fact_57 lmX1_sign q353 q355 rfl rfl qs6 ha hk (c_X1_sign e9) (hRet_oU () _) (zlt (by omega)) rfl rfl rfl (kOU (x := ()) k)
          · obtain ⟨a, hr, ha, hk, e9⟩ := zv1_ok e
            cases hr
            exact V_invokevirtualX (k := 1) eX1_fact_57 lmX1_sign q353 q355 rfl rfl qs6 ha hk (c_X1_sign e9) (zlt (by omega)) rfl rfl rfl k
          · skip
            refine V_aload0 eX1_fact_60 (zrf_rf _) ?_
            refine V_dup (zcr _) eX1_fact_61 ?_
            refine D_gI eX1_fact_62 fq_X1_61_tI H (fun v20 H => ?_)
            refine V_iconst (v := 1) (by decide) eX1_fact_65 ?_
            refine V_isub eX1_fact_66 ?_
            refine D_pI eX1_fact_67 fq_X1_61_tN fn_X1_fact_61 H (fun h H => ?_)
            refine V_aload2 eX1_fact_70 (zrf_rf _) ?_
            obtain ⟨rfl, rfl, rfl, rfl⟩ := zrt_ok H
            exact V_areturn eX1_fact_71 rfl (Or.inl ⟨_, rfl⟩) ⟨rfl, rfl⟩
          · obtain ⟨rfl, rfl, rfl, rfl⟩ := zrt_ok H
            exact VX_out rfl ⟨rfl, rfl⟩
        · obtain ⟨rfl, rfl, rfl, rfl⟩ := zrt_ok H
          exact VX_out rfl ⟨rfl, rfl⟩
      · obtain ⟨rfl, rfl, rfl, rfl⟩ := zrt_ok H
        exact VX_out rfl ⟨rfl, rfl⟩
  · have H := zif_t q H
    refine V_aload0 eX1_fact_11 (zrf_rf _) ?_
    refine D_callXU (pc' := 15) (st := []) H (fun v h' c1 s1 e cb sb k => ?_) (fun t h' c1 s1 e cb sb k => ?_) (fun v22 h c s H => ?_) (fun t23 h c s H => ?_)
    · obtain ⟨a, hr, ha, hk, e9⟩ := zv1_ok e
      cases hr
      exact V_invokevirtual (k := 1) eX1_fact_12 lmX1_opens q439 q441 rfl rfl qs12 ha hk (c_X1_opens e9) (hRet_oU () _) (zlt (by omega)) rfl rfl rfl (kOU (x := ()) k)
    · obtain ⟨a, hr, ha, hk, e9⟩ := zv1_ok e
      cases hr
      exact V_invokevirtualX (k := 1) eX1_fact_12 lmX1_opens q439 q441 rfl rfl qs12 ha hk (c_X1_opens e9) (zlt (by omega)) rfl rfl rfl k
    · skip
      refine V_aload0 eX1_fact_15 (zrf_rf _) ?_
      refine D_callXR (pc' := 19) (st := []) H (fun v h' c1 s1 e cb sb k => ?_) (fun t h' c1 s1 e cb sb k => ?_) (fun v25 h c s H => ?_) (fun t26 h c s H => ?_)
      · obtain ⟨a, hr, ha, hk, e9⟩ := zv1_ok e
        cases hr
        exact V_invokevirtual (k := 1) eX1_fact_16 lmX1_fact q435 q437 rfl rfl qs11 ha hk (hrX1_fact e9) (hRet_oR _ _) (zlt (by omega)) rfl rfl rfl (kOR k)
      · obtain ⟨a, hr, ha, hk, e9⟩ := zv1_ok e
        cases hr
        exact V_invokevirtualX (k := 1) eX1_fact_16 lmX1_fact q435 q437 rfl rfl qs11 ha hk (hrX1_fact e9) (zlt (by omega)) rfl rfl rfl k
      · skip
        refine V_astore2 rfl eX1_fact_19 rfl (zrf_rf _) ?_
        refine V_aload0 eX1_fact_20 (zrf_rf _) ?_
        refine V_dup (zcr _) eX1_fact_21 ?_
        refine D_gI eX1_fact_22 fq_X1_61_tI H (fun v27 H => ?_)
        refine V_iconst (v := 1) (by decide) eX1_fact_25 ?_
        refine V_isub eX1_fact_26 ?_
        refine D_pI eX1_fact_27 fq_X1_61_tN fn_X1_fact_61 H (fun h H => ?_)
        refine D_new (g := 0) eX1_fact_30 nl_X1_71 rfl H (fun n28 h c s H => ?_)
        refine V_dup (zcr _) eX1_fact_33 ?_
        refine V_aload2 eX1_fact_34 (zrf_rf _) ?_
        refine D_callU (pc' := 38) (st := [va_rf n28]) H (fun v h' c1 s1 e cb sb k => ?_) (fun v29 h c s H => ?_)
        · obtain ⟨a, hr, e9⟩ := znn_ok e
          cases hr
          exact V_invokeinit eX1_fact_35 lmX8_init rfl rfl q445 q446 (c_X8_init e9) (hRet_oU _ _) (zlt (by omega)) rfl rfl (by simp only [List.map_cons, List.map_nil, zcr]; rfl) (kOU k)
        obtain ⟨rfl, rfl, rfl, rfl⟩ := zrt_ok H
        exact V_areturn eX1_fact_38 rfl (Or.inl ⟨_, rfl⟩) ⟨rfl, rfl⟩
      · obtain ⟨rfl, rfl, rfl, rfl⟩ := zrt_ok H
        exact VX_out rfl ⟨rfl, rfl⟩
    · obtain ⟨rfl, rfl, rfl, rfl⟩ := zrt_ok H
      exact VX_out rfl ⟨rfl, rfl⟩
def z_X1_fact (w : Wd) (F : Nat) : Nat → Nat → M (Option Nat ⊕ Nat)
  | 0, _ => zno
  | n + 1, x => o_X1_fact w F (z_X1_fact w F n) x
theorem cz_X1_fact {w : Wd} {F : Nat} : ∀ (n : Nat), ∀ {x : Nat} {h h1 : Hp} {y : Option Nat ⊕ Nat} {c s : Nat}, z_X1_fact w F n x h = some (y, h1, c, s) → Con w mX1_fact cX1_fact (32 * n) c s [.ref x] h (Ro (oX oR y) h1) := by
  intro n
  induction n with
  | zero => intro x h h1 y c s H; exact zno_no H
  | succ n ih => intro x h h1 y c s H; exact c_X1_fact (k0 := 0) ih H
def d_X1_matches_50 (w : Wd) (F : Nat) (a2 : Int32) : M Int32 :=
  zrt a2
def B_X1_matches_2 (w : Wd) (F : Nat) (k2 : Int32 → M Int32) (x : Nat) (a1 : Option Nat) (a2 : Int32) : M Int32 :=
  zbd (zal a1) fun v1 =>
  zif (v1 ≤ a2) (d_X1_matches_50 w F a2)
  (zbd (zgI f_X1_at (some x)) fun v2 =>
  zbd (zgR f_X1_this_0 (some x)) fun v3 =>
  zbd (zgI f_X0_taped v3) fun v4 =>
  zif (v4 ≤ (v2 + a2)) (d_X1_matches_50 w F a2)
  (zbd (zgR f_X1_this_0 (some x)) fun v5 =>
  zbd (zgR f_X0_tape v5) fun v6 =>
  zbd (zgI f_X1_at (some x)) fun v7 =>
  zbd (zaI 2 v6 (v7 + a2)) fun v8 =>
  zbd (zaI 4 a1 a2) fun v9 =>
  zif (v8 = v9) (k2 (a2 + (1 : Int32)))
  (d_X1_matches_50 w F a2)))
def d_X1_matches_2 (w : Wd) (F : Nat) (x : Nat) (a1 : Option Nat) : Nat → Int32 → M Int32
  | 0, _ => zno
  | n + 1, a2 => B_X1_matches_2 w F (d_X1_matches_2 w F x a1 n) x a1 a2
def o_X1_matches (w : Wd) (F : Nat) (x : Nat) (a1 : Option Nat) : M Int32 :=
  d_X1_matches_2 w F x a1 F (0 : Int32)
theorem b_X1_matches_50 {w : Wd} {F : Nat} {a2 : Int32} {h h1 : Hp} {y : Int32} {c s : Nat} (H : d_X1_matches_50 w F a2 h = some (y, h1, c, s)) : V w mX1_matches cX1_matches 0 c s h 50 [none, none, some (.int a2)] [] (Ro (oI y) h1) := by
  unfold d_X1_matches_50 at H
  refine V_iload2 eX1_matches_50 ?_
  obtain ⟨rfl, rfl, rfl, rfl⟩ := zrt_ok H
  exact V_ireturn eX1_matches_51 rfl ⟨rfl, rfl⟩
theorem bB_X1_matches_2 {w : Wd} {F : Nat} {k2 : Int32 → M Int32} {x : Nat} {a1 : Option Nat} (hk2 : ∀ (a2 : Int32) (h : Hp) (y : Int32) (h1 : Hp) (c s : Nat), k2 a2 h = some (y, h1, c, s) → V w mX1_matches cX1_matches 0 c s h 2 [some (va_rf (some x)), some (va_rf a1), some (.int a2)] [] (Ro (oI y) h1)) {a2 : Int32} {h h1 : Hp} {y : Int32} {c s : Nat} (H : B_X1_matches_2 w F k2 x a1 a2 h = some (y, h1, c, s)) : V w mX1_matches cX1_matches 0 c s h 2 [some (va_rf (some x)), some (va_rf a1), some (.int a2)] [] (Ro (oI y) h1) := by
  unfold B_X1_matches_2 at H
  refine V_iload2 eX1_matches_2 ?_
  refine V_aload1 eX1_matches_3 (zrf_rf _) ?_
  refine D_arraylength eX1_matches_4 H (fun v1 H => ?_)
  refine V_if_icmpge eX1_matches_5 (fun q => ?_) (fun q => ?_)
  · have H := zif_t q H
    exact V_fg2 (b_X1_matches_50 H) (zfg_n (zfg_n (zfg_k zfg_e)))
  · have H := zif_f q H
    refine V_aload0 eX1_matches_8 (zrf_rf _) ?_
    refine D_gI eX1_matches_9 fq_X1_24_tI H (fun v2 H => ?_)
    refine V_iload2 eX1_matches_12 ?_
    refine V_iadd eX1_matches_13 ?_
    refine V_aload0 eX1_matches_14 (zrf_rf _) ?_
    refine D_gR eX1_matches_15 fq_X1_3_tR H (fun v3 H => ?_)
    refine D_gI eX1_matches_18 fq_X1_28_tI H (fun v4 H => ?_)
    refine V_if_icmpge eX1_matches_21 (fun q => ?_) (fun q => ?_)
    · have H := zif_t q H
      exact V_fg2 (b_X1_matches_50 H) (zfg_n (zfg_n (zfg_k zfg_e)))
    · have H := zif_f q H
      refine V_aload0 eX1_matches_24 (zrf_rf _) ?_
      refine D_gR eX1_matches_25 fq_X1_3_tR H (fun v5 H => ?_)
      refine D_gR eX1_matches_28 fq_X1_31_tR H (fun v6 H => ?_)
      refine V_aload0 eX1_matches_31 (zrf_rf _) ?_
      refine D_gI eX1_matches_32 fq_X1_24_tI H (fun v7 H => ?_)
      refine V_iload2 eX1_matches_35 ?_
      refine V_iadd eX1_matches_36 ?_
      refine D_baload eX1_matches_37 H (fun v8 H => ?_)
      refine V_aload1 eX1_matches_38 (zrf_rf _) ?_
      refine V_iload2 eX1_matches_39 ?_
      refine D_caload eX1_matches_40 H (fun v9 H => ?_)
      refine V_if_icmpne eX1_matches_41 (fun q => ?_) (fun q => ?_)
      · have H := zif_f q H
        exact V_fg2 (b_X1_matches_50 H) (zfg_n (zfg_n (zfg_k zfg_e)))
      · have H := zif_t q H
        refine V_iinc2 (znl_rf _) eX1_matches_44 rfl (v := 1) (by decide) ?_
        refine V_goto eX1_matches_47 ?_
        exact V_fg2 (hk2 _ _ _ _ _ _ H) (zfg_k (zfg_k (zfg_k zfg_e)))
theorem b_X1_matches_2 {w : Wd} {F : Nat} {x : Nat} {a1 : Option Nat} : ∀ (n : Nat) (a2 : Int32) (h : Hp) (y : Int32) (h1 : Hp) (c s : Nat), d_X1_matches_2 w F x a1 n a2 h = some (y, h1, c, s) → V w mX1_matches cX1_matches 0 c s h 2 [some (va_rf (some x)), some (va_rf a1), some (.int a2)] [] (Ro (oI y) h1) := by
  intro n
  induction n with
  | zero => intro a2 h y h1 c s H; exact zno_no H
  | succ n ih => intro a2 h y h1 c s H; exact bB_X1_matches_2 ih H
theorem c_X1_matches {w : Wd} {F : Nat} {x : Nat} {a1 : Option Nat} {h h1 : Hp} {y : Int32} {c s : Nat} (H : o_X1_matches w F x a1 h = some (y, h1, c, s)) : Con w mX1_matches cX1_matches 0 c s [.ref x, va_rf a1] h (Ro (oI y) h1) := by
  unfold o_X1_matches at H
  refine Con.of (ls := [some (va_rf (some x)), some (va_rf a1), none]) (by decide +kernel) (by simp only [zsl_r, zsl_i, zsl_l, zsl_n, zsl_a]; rfl) (by simp only [zar_r, zar_i, zar_l, zar_n, zar_a]; rfl) ?_
  refine V_iconst (v := 0) (by decide) eX1_matches_0 ?_
  refine V_istore2 (znl_rf _) eX1_matches_1 rfl ?_
  exact V_fg2 (b_X1_matches_2 _ _ _ _ _ _ _ H) (zfg_k (zfg_k (zfg_k zfg_e)))
def f_X1_words : Nat → Option Nat := fun k => match k with
  | 1 => some 0
  | _ => none
theorem fq_X1_17_tR : FQ RX1 17 f_X1_words tR := by
  intro k j e
  unfold f_X1_words at e
  split at e
  · cases e; exact ⟨fl_X1_17_1, Or.inr ⟨_, rfl⟩⟩
  · cases e
theorem fn_X1_word_24 : FN mX1_word 24 f_X1_at := by
  intro k j e
  unfold f_X1_at at e
  split at e
  · cases e; exact Or.inl rfl
  · cases e
def B_X1_word_4 (w : Wd) (F : Nat) (k4 : Int32 → Int32 → M (Int32 ⊕ Nat)) (x : Nat) (a1 : Int32) (a2 : Int32) : M (Int32 ⊕ Nat) :=
  zif ((7 : Int32) ≤ a2) (zbd (znw 5 0 7) fun n1 =>
  zbd (zgI f_X1_at (some x)) fun v2 =>
  zbd (znn n1 (fun a => o_X5_init w F a (v2 + a1))) fun _ =>
  znn n1 (fun a => zrt (Sum.inr a)))
  (zbd (zgR f_X1_words (some x)) fun v4 =>
  zbd (zaR v4 a2) fun v5 =>
  zbd (zv1 1 (some x) (fun a => o_X1_matches w F a v5)) fun v6 =>
  zbd (o_J6_max w F a1 v6) fun v7 =>
  zbd (zgR f_X1_words (some x)) fun v8 =>
  zbd (zaR v8 a2) fun v9 =>
  zbd (zal v9) fun v10 =>
  zif (v10 ≤ v6) (zbd (zgI f_X1_at (some x)) fun v11 =>
  zbd (zpI f_X1_at (some x) (v11 + v6)) fun _ =>
  zbd (zv1 1 (some x) (fun a => o_X1_sign w F a (32 : Int32))) fun r => zsm r (fun _ =>
  zrt (Sum.inl a2))
  (fun t14 => zrt (Sum.inr t14)))
  (k4 v7 (a2 + (1 : Int32))))
def d_X1_word_4 (w : Wd) (F : Nat) (x : Nat) : Nat → Int32 → Int32 → M (Int32 ⊕ Nat)
  | 0, _, _ => zno
  | n + 1, a1, a2 => B_X1_word_4 w F (d_X1_word_4 w F x n) x a1 a2
def o_X1_word (w : Wd) (F : Nat) (x : Nat) : M (Int32 ⊕ Nat) :=
  d_X1_word_4 w F x F (0 : Int32) (0 : Int32)
theorem bB_X1_word_4 {w : Wd} {F : Nat} {k4 : Int32 → Int32 → M (Int32 ⊕ Nat)} {x : Nat} (hk4 : ∀ (a1 : Int32) (a2 : Int32) (h : Hp) (y : (Int32 ⊕ Nat)) (h1 : Hp) (c s : Nat), k4 a1 a2 h = some (y, h1, c, s) → V w mX1_word cX1_word 5 c s h 4 [some (va_rf (some x)), some (.int a1), some (.int a2), none] [] (Ro (oX oI y) h1)) {a1 : Int32} {a2 : Int32} {h h1 : Hp} {y : (Int32 ⊕ Nat)} {c s : Nat} (H : B_X1_word_4 w F k4 x a1 a2 h = some (y, h1, c, s)) : V w mX1_word cX1_word 5 c s h 4 [some (va_rf (some x)), some (.int a1), some (.int a2), none] [] (Ro (oX oI y) h1) := by
  unfold B_X1_word_4 at H
  refine V_iload2 eX1_word_4 ?_
  refine V_bipush (v := 7) (by decide) eX1_word_5 ?_
  refine V_if_icmpge eX1_word_7 (fun q => ?_) (fun q => ?_)
  · have H := zif_t q H
    refine D_new (g := 0) eX1_word_65 nl_X1_39 rfl H (fun n1 h c s H => ?_)
    refine V_dup (zcr _) eX1_word_68 ?_
    refine V_aload0 eX1_word_69 (zrf_rf _) ?_
    refine D_gI eX1_word_70 fq_X1_24_tI H (fun v2 H => ?_)
    refine V_iload1 eX1_word_73 ?_
    refine V_iadd eX1_word_74 ?_
    refine D_callU (pc' := 78) (st := [va_rf n1]) H (fun v h' c1 s1 e cb sb k => ?_) (fun v3 h c s H => ?_)
    · obtain ⟨a, hr, e9⟩ := znn_ok e
      cases hr
      exact V_invokeinit eX1_word_75 lmX5_init rfl rfl q399 q400 (c_X5_init e9) (hRet_oU _ _) rfl rfl rfl (by simp only [List.map_cons, List.map_nil, zcr]; rfl) (kOU k)
    obtain ⟨a9, hr9, H⟩ := znn_ok H
    cases hr9
    obtain ⟨rfl, rfl, rfl, rfl⟩ := zrt_ok H
    exact V_athrow eX1_word_78 rfl ⟨rfl, rfl⟩
  · have H := zif_f q H
    refine V_aload0 eX1_word_10 (zrf_rf _) ?_
    refine V_aload0 eX1_word_11 (zrf_rf _) ?_
    refine D_gR eX1_word_12 fq_X1_17_tR H (fun v4 H => ?_)
    refine V_iload2 eX1_word_15 ?_
    refine D_aaload eX1_word_16 H (fun v5 H => ?_)
    refine D_callI (pc' := 20) (st := []) H (fun v h' c1 s1 e cb sb k => ?_) (fun v6 h c s H => ?_)
    · obtain ⟨a, hr, ha, hk, e9⟩ := zv1_ok e
      cases hr
      exact V_invokevirtual (k := 1) eX1_word_17 lmX1_matches q348 q350 rfl rfl qs5 ha hk (c_X1_matches e9) (hRet_oI _ _) rfl rfl rfl rfl (kOI k)
    refine V_istore3 rfl eX1_word_20 rfl ?_
    refine V_iload1 eX1_word_21 ?_
    refine V_iload3 eX1_word_22 ?_
    refine D_callI (pc' := 26) (st := []) H (fun v h' c1 s1 e cb sb k => ?_) (fun v7 h c s H => ?_)
    · exact V_invokestatic eX1_word_23 lmJ6_max q352 q219 (c_J6_max e) (hRet_oI _ _) rfl rfl rfl rfl (kOI k)
    refine V_istore1 (znl_rf _) eX1_word_26 rfl ?_
    refine V_iload3 eX1_word_27 ?_
    refine V_aload0 eX1_word_28 (zrf_rf _) ?_
    refine D_gR eX1_word_29 fq_X1_17_tR H (fun v8 H => ?_)
    refine V_iload2 eX1_word_32 ?_
    refine D_aaload eX1_word_33 H (fun v9 H => ?_)
    refine D_arraylength eX1_word_34 H (fun v10 H => ?_)
    refine V_if_icmpge eX1_word_35 (fun q => ?_) (fun q => ?_)
    · have H := zif_t q H
      refine V_aload0 eX1_word_41 (zrf_rf _) ?_
      refine V_dup (zcr _) eX1_word_42 ?_
      refine D_gI eX1_word_43 fq_X1_24_tI H (fun v11 H => ?_)
      refine V_iload3 eX1_word_46 ?_
      refine V_iadd eX1_word_47 ?_
      refine D_pI eX1_word_48 fq_X1_24_tN fn_X1_word_24 H (fun h H => ?_)
      refine V_aload0 eX1_word_51 (zrf_rf _) ?_
      refine V_bipush (v := 32) (by decide) eX1_word_52 ?_
      refine D_callXU (pc' := 57) (st := []) H (fun v h' c1 s1 e cb sb k => ?_) (fun t h' c1 s1 e cb sb k => ?_) (fun v13 h c s H => ?_) (fun t14 h c s H => ?_)
      · obtain ⟨a, hr, ha, hk, e9⟩ := zv1_ok e
        cases hr
        exact V_invokevirtual (k := 1) eX1_word_54 lmX1_sign q353 q355 rfl rfl qs6 ha hk (c_X1_sign e9) (hRet_oU () _) rfl rfl rfl rfl (kOU (x := ()) k)
      · obtain ⟨a, hr, ha, hk, e9⟩ := zv1_ok e
        cases hr
        exact V_invokevirtualX (k := 1) eX1_word_54 lmX1_sign q353 q355 rfl rfl qs6 ha hk (c_X1_sign e9) rfl rfl rfl rfl k
      · skip
        refine V_iload2 eX1_word_57 ?_
        obtain ⟨rfl, rfl, rfl, rfl⟩ := zrt_ok H
        exact V_ireturn eX1_word_58 rfl ⟨rfl, rfl⟩
      · obtain ⟨rfl, rfl, rfl, rfl⟩ := zrt_ok H
        exact VX_out rfl ⟨rfl, rfl⟩
    · have H := zif_f q H
      refine V_goto eX1_word_38 ?_
      refine V_iinc2 rfl eX1_word_59 rfl (v := 1) (by decide) ?_
      refine V_goto eX1_word_62 ?_
      exact V_fg2 (hk4 _ _ _ _ _ _ _ H) (zfg_k (zfg_k (zfg_k (zfg_n zfg_e))))
theorem b_X1_word_4 {w : Wd} {F : Nat} {x : Nat} : ∀ (n : Nat) (a1 : Int32) (a2 : Int32) (h : Hp) (y : (Int32 ⊕ Nat)) (h1 : Hp) (c s : Nat), d_X1_word_4 w F x n a1 a2 h = some (y, h1, c, s) → V w mX1_word cX1_word 5 c s h 4 [some (va_rf (some x)), some (.int a1), some (.int a2), none] [] (Ro (oX oI y) h1) := by
  intro n
  induction n with
  | zero => intro a1 a2 h y h1 c s H; exact zno_no H
  | succ n ih => intro a1 a2 h y h1 c s H; exact bB_X1_word_4 ih H
theorem c_X1_word {w : Wd} {F : Nat} {x : Nat} {h h1 : Hp} {y : (Int32 ⊕ Nat)} {c s : Nat} (H : o_X1_word w F x h = some (y, h1, c, s)) : Con w mX1_word cX1_word 5 c s [.ref x] h (Ro (oX oI y) h1) := by
  unfold o_X1_word at H
  refine Con.of (ls := [some (va_rf (some x)), none, none, none]) (by decide +kernel) rfl rfl ?_
  refine V_iconst (v := 0) (by decide) eX1_word_0 ?_
  refine V_istore1 (znl_rf _) eX1_word_1 rfl ?_
  refine V_iconst (v := 0) (by decide) eX1_word_2 ?_
  refine V_istore2 rfl eX1_word_3 rfl ?_
  exact V_fg2 (b_X1_word_4 _ _ _ _ _ _ _ _ H) (zfg_k (zfg_k (zfg_k (zfg_n zfg_e))))
