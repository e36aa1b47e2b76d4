set_option maxRecDepth 100000
def f_X19_holder : Nat → Option Nat := fun k => match k with
  | 19 => some 0
  | _ => none
theorem fq_X19_7_tN : FQ RX19 7 f_X19_holder tN := by
  intro k j e
  unfold f_X19_holder at e
  split at e
  · cases e; exact ⟨fl_X19_7_19, rfl⟩
  · cases e
theorem fn_X19_init_7 : FN mX19_init 7 f_X19_holder := by
  intro k j e
  unfold f_X19_holder at e
  split at e
  · cases e; exact Or.inr ⟨rfl, rfl, rfl, _, q1281, rfl⟩
  · cases e
def f_X19_bill : Nat → Option Nat := fun k => match k with
  | 19 => some 1
  | _ => none
theorem fq_X19_13_tN : FQ RX19 13 f_X19_bill tN := by
  intro k j e
  unfold f_X19_bill at e
  split at e
  · cases e; exact ⟨fl_X19_13_19, rfl⟩
  · cases e
theorem fn_X19_init_13 : FN mX19_init 13 f_X19_bill := by
  intro k j e
  unfold f_X19_bill at e
  split at e
  · cases e; exact Or.inr ⟨rfl, rfl, rfl, _, q1283, rfl⟩
  · cases e
def f_X19_yes : Nat → Option Nat := fun k => match k with
  | 19 => some 2
  | _ => none
theorem fq_X19_16_tZ : FQ RX19 16 f_X19_yes tZ := by
  intro k j e
  unfold f_X19_yes at e
  split at e
  · cases e; exact ⟨fl_X19_16_19, rfl⟩
  · cases e
theorem fn_X19_init_16 : FN mX19_init 16 f_X19_yes := by
  intro k j e
  unfold f_X19_yes at e
  split at e
  · cases e; exact Or.inr ⟨rfl, rfl, rfl, _, q1285, rfl⟩
  · cases e
def o_X19_init (w : Wd) (F : Nat) (x : Nat) (a1 : Int32) (a2 : Int32) (a3 : Int32) : M Unit :=
  zbd (zpI f_X19_holder (some x) a1) fun _ =>
  zbd (zpI f_X19_bill (some x) a2) fun _ =>
  zbd (zpZ f_X19_yes (some x) a3) fun _ =>
  zrt ()
theorem c_X19_init {w : Wd} {F : Nat} {x : Nat} {a1 : Int32} {a2 : Int32} {a3 : Int32} {h h1 : Hp} {y : Unit} {c s : Nat} (H : o_X19_init w F x a1 a2 a3 h = some (y, h1, c, s)) : Con w mX19_init cX19_init 1 c s [.ref x, .int a1, .int a2, .int a3] h (Ro (oU y) h1) := by
  unfold o_X19_init at H
  refine Con.of (ls := [some (va_rf (some x)), some (.int a1), some (.int a2), some (.int a3)]) (by decide +kernel) rfl rfl ?_
  refine V_aload0 eX19_init_0 (zrf_rf _) ?_
  refine V_objectinit eX19_init_1 q1280 q180 q181 rfl rfl ?_
  refine V_aload0 eX19_init_4 (zrf_rf _) ?_
  refine V_iload1 eX19_init_5 ?_
  refine D_pI eX19_init_6 fq_X19_7_tN fn_X19_init_7 H (fun h H => ?_)
  refine V_aload0 eX19_init_9 (zrf_rf _) ?_
  refine V_iload2 eX19_init_10 ?_
  refine D_pI eX19_init_11 fq_X19_13_tN fn_X19_init_13 H (fun h H => ?_)
  refine V_aload0 eX19_init_14 (zrf_rf _) ?_
  refine V_iload3 eX19_init_15 ?_
  refine D_pZ eX19_init_16 fq_X19_16_tZ fn_X19_init_16 H (fun h H => ?_)
  obtain ⟨rfl, rfl, rfl, rfl⟩ := zrt_ok H
  exact V_return (x := ()) eX19_init_19 rfl ⟨rfl, rfl⟩
def d_X0_board_15 (w : Wd) (F : Nat) : M Int32 :=
  zrt (-1 : Int32)
def o_X0_board (w : Wd) (F : Nat) (x : Nat) (a1 : Int32) (a2 : Int32) (a3 : Int32) : M Int32 :=
  zbd (o_X0_isHolder w F a1) fun v1 =>
  zif (v1 = 0) (d_X0_board_15 w F)
  (zbd (zv1 0 (some x) (fun a => o_X0_billAt w F a a2)) fun v2 =>
  zif (v2 = none) (d_X0_board_15 w F)
  (zbd (zgR f_X0_votes (some x)) fun v3 =>
  zbd (zv1 30 v3 (fun a => o_J2_size w F a)) fun v4 =>
  zif (v4 = (60 : Int32)) (zrt (-4 : Int32))
  (zbd (zgR f_X0_votes (some x)) fun v5 =>
  zbd (znw 19 0 3) fun n6 =>
  zbd (znn n6 (fun a => o_X19_init w F a a1 a2 a3)) fun _ =>
  zbd (zv1 30 v5 (fun a => o_J2_add w F a n6)) fun v8 =>
  zbd (zgR f_X0_votes (some x)) fun v9 =>
  zbd (zv1 30 v9 (fun a => o_J2_size w F a)) fun v10 =>
  zrt v10)))
theorem b_X0_board_15 {w : Wd} {F : Nat} {h h1 : Hp} {y : Int32} {c s : Nat} (H : d_X0_board_15 w F h = some (y, h1, c, s)) : V w mX0_board cX0_board 7 c s h 15 [none, none, none, none] [] (Ro (oI y) h1) := by
  unfold d_X0_board_15 at H
  refine V_iconst (v := -1) (by decide) eX0_board_15 ?_
  obtain ⟨rfl, rfl, rfl, rfl⟩ := zrt_ok H
  exact V_ireturn eX0_board_16 rfl ⟨rfl, rfl⟩
theorem c_X0_board {w : Wd} {F : Nat} {x : Nat} {a1 : Int32} {a2 : Int32} {a3 : Int32} {h h1 : Hp} {y : Int32} {c s : Nat} (H : o_X0_board w F x a1 a2 a3 h = some (y, h1, c, s)) : Con w mX0_board cX0_board 7 c s [.ref x, .int a1, .int a2, .int a3] h (Ro (oI y) h1) := by
  unfold o_X0_board at H
  refine Con.of (ls := [some (va_rf (some x)), some (.int a1), some (.int a2), some (.int a3)]) (by decide +kernel) rfl rfl ?_
  refine V_iload1 eX0_board_0 ?_
  refine D_callI (pc' := 4) (st := []) H (fun v h' c1 s1 e cb sb k => ?_) (fun v1 h c s H => ?_)
  · exact V_invokestatic eX0_board_1 lmX0_isHolder q276 q277 (c_X0_isHolder e) (hRet_oI _ _) rfl rfl rfl rfl (kOI k)
  refine V_ifeq eX0_board_4 (fun q => ?_) (fun q => ?_)
  · have H := zif_t q H
    exact V_fg2 (b_X0_board_15 H) (zfg_n (zfg_n (zfg_n (zfg_n zfg_e))))
  · have H := zif_f q H
    refine V_aload0 eX0_board_7 (zrf_rf _) ?_
    refine V_iload2 eX0_board_8 ?_
    refine D_callR (pc' := 12) (st := []) H (fun v h' c1 s1 e cb sb k => ?_) (fun v2 h c s H => ?_)
    · obtain ⟨a, hr, ha, hk, e9⟩ := zv1_ok e
      cases hr
      exact V_invokevirtual (k := 0) eX0_board_9 lmX0_billAt q1060 q1062 rfl rfl qs33 ha hk (c_X0_billAt e9) (hRet_oR _ _) rfl rfl rfl rfl (kOR k)
    refine V_ifnonnull eX0_board_12 (fun a q => ?_) (fun q => ?_)
    · have H := zif_f (zsn q) H
      refine V_aload0 eX0_board_17 (zrf_rf _) ?_
      refine D_gR eX0_board_18 fq_X0_154_tR H (fun v3 H => ?_)
      refine D_callI (pc' := 24) (st := []) H (fun v h' c1 s1 e cb sb k => ?_) (fun v4 h c s H => ?_)
      · obtain ⟨a, hr, ha, hk, e9⟩ := zv1_ok e
        cases hr
        exact V_invokevirtual (k := 30) eX0_board_21 lmJ2_size q156 q157 rfl rfl q158 ha hk (c_J2_size e9) (hRet_oI _ _) rfl rfl rfl rfl (kOI k)
      refine V_bipush (v := 60) (by decide) eX0_board_24 ?_
      refine V_if_icmpne eX0_board_26 (fun q => ?_) (fun q => ?_)
      · have H := zif_f q H
        refine V_aload0 eX0_board_32 (zrf_rf _) ?_
        refine D_gR eX0_board_33 fq_X0_154_tR H (fun v5 H => ?_)
        refine D_new (g := 0) eX0_board_36 nl_X0_377 rfl H (fun n6 h c s H => ?_)
        refine V_dup (zcr _) eX0_board_39 ?_
        refine V_iload1 eX0_board_40 ?_
        refine V_iload2 eX0_board_41 ?_
        refine V_iload3 eX0_board_42 ?_
        refine D_callU (pc' := 46) (st := [va_rf n6, va_rf v5]) H (fun v h' c1 s1 e cb sb k => ?_) (fun v7 h c s H => ?_)
        · obtain ⟨a, hr, e9⟩ := znn_ok e
          cases hr
          exact V_invokeinit eX0_board_43 lmX19_init rfl rfl q1277 q1278 (c_X19_init e9) (hRet_oU _ _) rfl rfl rfl (by simp only [List.map_cons, List.map_nil, zcr]; rfl) (kOU k)
        refine D_callI (pc' := 49) (st := []) H (fun v h' c1 s1 e cb sb k => ?_) (fun v8 h c s H => ?_)
        · obtain ⟨a, hr, ha, hk, e9⟩ := zv1_ok e
          cases hr
          exact V_invokevirtual (k := 30) eX0_board_46 lmJ2_add q196 q197 rfl rfl q198 ha hk (c_J2_add e9) (hRet_oI _ _) rfl rfl rfl rfl (kOI k)
        refine V_pop rfl eX0_board_49 ?_
        refine V_aload0 eX0_board_50 (zrf_rf _) ?_
        refine D_gR eX0_board_51 fq_X0_154_tR H (fun v9 H => ?_)
        refine D_callI (pc' := 57) (st := []) H (fun v h' c1 s1 e cb sb k => ?_) (fun v10 h c s H => ?_)
        · obtain ⟨a, hr, ha, hk, e9⟩ := zv1_ok e
          cases hr
          exact V_invokevirtual (k := 30) eX0_board_54 lmJ2_size q156 q157 rfl rfl q158 ha hk (c_J2_size e9) (hRet_oI _ _) rfl rfl rfl rfl (kOI k)
        obtain ⟨rfl, rfl, rfl, rfl⟩ := zrt_ok H
        exact V_ireturn eX0_board_57 rfl ⟨rfl, rfl⟩
      · have H := zif_t q H
        refine V_bipush (v := -4) (by decide) eX0_board_29 ?_
        obtain ⟨rfl, rfl, rfl, rfl⟩ := zrt_ok H
        exact V_ireturn eX0_board_31 rfl ⟨rfl, rfl⟩
    · have H := zif_t q H
      exact V_fg2 (b_X0_board_15 H) (zfg_n (zfg_n (zfg_n (zfg_n zfg_e))))
def y_X19 : Nat → Bool := fun k => match k with
  | 19 => true
  | _ => false
theorem y_X19_ok : ∀ k, y_X19 k = true → zok k = true ∧ ((zcl k).1 = "LinesPromised$Vote" ∨ Cond.castable (zcl k).1 "LinesPromised$Vote" ∈ lw_tbl) := by
  intro k e
  unfold y_X19 at e
  split at e
  · exact ⟨by decide, Or.inl rfl⟩
  · cases e
theorem fq_X0_382_tI : FQ RX0 382 f_X19_holder tI := by
  intro k j e
  unfold f_X19_holder at e
  split at e
  · cases e; exact ⟨fl_X0_382_19, Or.inl rfl⟩
  · cases e
theorem fq_X0_385_tI : FQ RX0 385 f_X19_bill tI := by
  intro k j e
  unfold f_X19_bill at e
  split at e
  · cases e; exact ⟨fl_X0_385_19, Or.inl rfl⟩
  · cases e
theorem fq_X0_388_tI : FQ RX0 388 f_X19_yes tI := by
  intro k j e
  unfold f_X19_yes at e
  split at e
  · cases e; exact ⟨fl_X0_388_19, Or.inr (Or.inl rfl)⟩
  · cases e
def d_X0_doubled_111 (w : Wd) (F : Nat) (k30 : Int32 → Int32 → M Int32) (x : Nat) (a1 : Int32) (a2 : Int32) (a3 : Option Nat) (a4 : Int32) : M Int32 :=
  k30 a1 (a4 + (1 : Int32))
def B_X0_doubled_30 (w : Wd) (F : Nat) (k4 : Int32 → Int32 → M Int32) (k30 : Int32 → Int32 → M Int32) (x : Nat) (a2 : Int32) (a3 : Option Nat) (a1 : Int32) (a4 : Int32) : M Int32 :=
  zif (a2 ≤ a4) (k4 a1 (a2 + (1 : Int32)))
  (zbd (zgR f_X0_votes (some x)) fun v5 =>
  zbd (zv1 30 v5 (fun a => o_J2_get w F a a4)) fun v6 =>
  zbd (zcc y_X19 v6) fun _ =>
  zbd (zgI f_X19_holder v6) fun v7 =>
  zbd (zgI f_X19_holder a3) fun v8 =>
  zif (v7 = v8) (zbd (zgR f_X0_votes (some x)) fun v9 =>
  zbd (zv1 30 v9 (fun a => o_J2_get w F a a4)) fun v10 =>
  zbd (zcc y_X19 v10) fun _ =>
  zbd (zgI f_X19_bill v10) fun v11 =>
  zbd (zgI f_X19_bill a3) fun v12 =>
  zif (v11 = v12) (zbd (zgR f_X0_votes (some x)) fun v13 =>
  zbd (zv1 30 v13 (fun a => o_J2_get w F a a4)) fun v14 =>
  zbd (zcc y_X19 v14) fun _ =>
  zbd (zgI f_X19_yes v14) fun v15 =>
  zbd (zgI f_X19_yes a3) fun v16 =>
  zif (v15 = v16) (d_X0_doubled_111 w F k30 x a1 a2 a3 a4)
  (zbd (zgI f_X19_holder a3) fun v17 =>
  d_X0_doubled_111 w F k30 x (a1 ||| ((1 : Int32) <<< (v17 &&& 31))) a2 a3 a4))
  (d_X0_doubled_111 w F k30 x a1 a2 a3 a4))
  (d_X0_doubled_111 w F k30 x a1 a2 a3 a4))
def d_X0_doubled_30 (w : Wd) (F : Nat) (k4 : Int32 → Int32 → M Int32) (x : Nat) (a2 : Int32) (a3 : Option Nat) : Nat → Int32 → Int32 → M Int32
  | 0, _, _ => zno
  | n + 1, a1, a4 => B_X0_doubled_30 w F k4 (d_X0_doubled_30 w F k4 x a2 a3 n) x a2 a3 a1 a4
def B_X0_doubled_4 (w : Wd) (F : Nat) (k4 : Int32 → Int32 → M Int32) (x : Nat) (a1 : Int32) (a2 : Int32) : M Int32 :=
  zbd (zgR f_X0_votes (some x)) fun v1 =>
  zbd (zv1 30 v1 (fun a => o_J2_size w F a)) fun v2 =>
  zif (v2 ≤ a2) (zrt a1)
  (zbd (zgR f_X0_votes (some x)) fun v3 =>
  zbd (zv1 30 v3 (fun a => o_J2_get w F a a2)) fun v4 =>
  zbd (zcc y_X19 v4) fun _ =>
  d_X0_doubled_30 w F k4 x a2 v4 F a1 (0 : Int32))
def d_X0_doubled_4 (w : Wd) (F : Nat) (x : Nat) : Nat → Int32 → Int32 → M Int32
  | 0, _, _ => zno
  | n + 1, a1, a2 => B_X0_doubled_4 w F (d_X0_doubled_4 w F x n) x a1 a2
def o_X0_doubled (w : Wd) (F : Nat) (x : Nat) : M Int32 :=
  d_X0_doubled_4 w F x F (0 : Int32) (0 : Int32)
theorem b_X0_doubled_111 {w : Wd} {F : Nat} {k30 : Int32 → Int32 → M Int32} {x : Nat} {a2 : Int32} {a3 : Option Nat} (hk30 : ∀ (a1 : Int32) (a4 : Int32) (h : Hp) (y : Int32) (h1 : Hp) (c s : Nat), k30 a1 a4 h = some (y, h1, c, s) → V w mX0_doubled cX0_doubled 3 c s h 30 [some (va_rf (some x)), some (.int a1), some (.int a2), some (va_rf a3), some (.int a4)] [] (Ro (oI y) h1)) {a1 : Int32} {a4 : Int32} {h h1 : Hp} {y : Int32} {c s : Nat} (H : d_X0_doubled_111 w F k30 x a1 a2 a3 a4 h = some (y, h1, c, s)) : V w mX0_doubled cX0_doubled 3 c s h 111 [some (va_rf (some x)), some (.int a1), some (.int a2), some (va_rf a3), some (.int a4)] [] (Ro (oI y) h1) := by
  unfold d_X0_doubled_111 at H
  refine V_iinc4 (znl_rf _) eX0_doubled_111 rfl (v := 1) (by decide) ?_
  refine V_goto eX0_doubled_114 ?_
  exact V_fg2 (hk30 _ _ _ _ _ _ _ H) (zfg_k (zfg_k (zfg_k (zfg_k (zfg_k zfg_e)))))
theorem bB_X0_doubled_30 {w : Wd} {F : Nat} {k4 : Int32 → Int32 → M Int32} {k30 : Int32 → Int32 → M Int32} {x : Nat} {a2 : Int32} {a3 : Option Nat} (hk4 : ∀ (a1 : Int32) (a2 : Int32) (h : Hp) (y : Int32) (h1 : Hp) (c s : Nat), k4 a1 a2 h = some (y, h1, c, s) → V w mX0_doubled cX0_doubled 3 c s h 4 [some (va_rf (some x)), some (.int a1), some (.int a2), none, none] [] (Ro (oI y) h1)) (hk30 : ∀ (a1 : Int32) (a4 : Int32) (h : Hp) (y : Int32) (h1 : Hp) (c s : Nat), k30 a1 a4 h = some (y, h1, c, s) → V w mX0_doubled cX0_doubled 3 c s h 30 [some (va_rf (some x)), some (.int a1), some (.int a2), some (va_rf a3), some (.int a4)] [] (Ro (oI y) h1)) {a1 : Int32} {a4 : Int32} {h h1 : Hp} {y : Int32} {c s : Nat} (H : B_X0_doubled_30 w F k4 k30 x a2 a3 a1 a4 h = some (y, h1, c, s)) : V w mX0_doubled cX0_doubled 3 c s h 30 [some (va_rf (some x)), some (.int a1), some (.int a2), some (va_rf a3), some (.int a4)] [] (Ro (oI y) h1) := by
  unfold B_X0_doubled_30 at H
  refine V_iload4 eX0_doubled_30 ?_
  refine V_iload2 eX0_doubled_32 ?_
  refine V_if_icmpge eX0_doubled_33 (fun q => ?_) (fun q => ?_)
  · have H := zif_t q H
    refine V_iinc2 rfl eX0_doubled_117 rfl (v := 1) (by decide) ?_
    refine V_goto eX0_doubled_120 ?_
    exact V_fg2 (hk4 _ _ _ _ _ _ _ H) (zfg_k (zfg_k (zfg_k (zfg_n (zfg_n zfg_e)))))
  · have H := zif_f q H
    refine V_aload0 eX0_doubled_36 (zrf_rf _) ?_
    refine D_gR eX0_doubled_37 fq_X0_154_tR H (fun v5 H => ?_)
    refine V_iload4 eX0_doubled_40 ?_
    refine D_callR (pc' := 45) (st := []) H (fun v h' c1 s1 e cb sb k => ?_) (fun v6 h c s H => ?_)
    · obtain ⟨a, hr, ha, hk, e9⟩ := zv1_ok e
      cases hr
      exact V_invokevirtual (k := 30) eX0_doubled_42 lmJ2_get q160 q161 rfl rfl q162 ha hk (c_J2_get e9) (hRet_oR _ _) rfl rfl rfl rfl (kOR k)
    refine D_cast eX0_doubled_45 q1275 y_X19_ok H (fun H => ?_)
    refine D_gI eX0_doubled_48 fq_X0_382_tI H (fun v7 H => ?_)
    refine V_aload3 eX0_doubled_51 (zrf_rf _) ?_
    refine D_gI eX0_doubled_52 fq_X0_382_tI H (fun v8 H => ?_)
    refine V_if_icmpne eX0_doubled_55 (fun q => ?_) (fun q => ?_)
    · have H := zif_f q H
      exact V_fg2 (b_X0_doubled_111 hk30 H) (zfg_k (zfg_k (zfg_k (zfg_k (zfg_k zfg_e)))))
    · have H := zif_t q H
      refine V_aload0 eX0_doubled_58 (zrf_rf _) ?_
      refine D_gR eX0_doubled_59 fq_X0_154_tR H (fun v9 H => ?_)
      refine V_iload4 eX0_doubled_62 ?_
      refine D_callR (pc' := 67) (st := []) H (fun v h' c1 s1 e cb sb k => ?_) (fun v10 h c s H => ?_)
      · obtain ⟨a, hr, ha, hk, e9⟩ := zv1_ok e
        cases hr
        exact V_invokevirtual (k := 30) eX0_doubled_64 lmJ2_get q160 q161 rfl rfl q162 ha hk (c_J2_get e9) (hRet_oR _ _) rfl rfl rfl rfl (kOR k)
      refine D_cast eX0_doubled_67 q1275 y_X19_ok H (fun H => ?_)
      refine D_gI eX0_doubled_70 fq_X0_385_tI H (fun v11 H => ?_)
      refine V_aload3 eX0_doubled_73 (zrf_rf _) ?_
      refine D_gI eX0_doubled_74 fq_X0_385_tI H (fun v12 H => ?_)
      refine V_if_icmpne eX0_doubled_77 (fun q => ?_) (fun q => ?_)
      · have H := zif_f q H
        exact V_fg2 (b_X0_doubled_111 hk30 H) (zfg_k (zfg_k (zfg_k (zfg_k (zfg_k zfg_e)))))
      · have H := zif_t q H
        refine V_aload0 eX0_doubled_80 (zrf_rf _) ?_
        refine D_gR eX0_doubled_81 fq_X0_154_tR H (fun v13 H => ?_)
        refine V_iload4 eX0_doubled_84 ?_
        refine D_callR (pc' := 89) (st := []) H (fun v h' c1 s1 e cb sb k => ?_) (fun v14 h c s H => ?_)
        · obtain ⟨a, hr, ha, hk, e9⟩ := zv1_ok e
          cases hr
          exact V_invokevirtual (k := 30) eX0_doubled_86 lmJ2_get q160 q161 rfl rfl q162 ha hk (c_J2_get e9) (hRet_oR _ _) rfl rfl rfl rfl (kOR k)
        refine D_cast eX0_doubled_89 q1275 y_X19_ok H (fun H => ?_)
        refine D_gI eX0_doubled_92 fq_X0_388_tI H (fun v15 H => ?_)
        refine V_aload3 eX0_doubled_95 (zrf_rf _) ?_
        refine D_gI eX0_doubled_96 fq_X0_388_tI H (fun v16 H => ?_)
        refine V_if_icmpeq eX0_doubled_99 (fun q => ?_) (fun q => ?_)
        · have H := zif_t q H
          exact V_fg2 (b_X0_doubled_111 hk30 H) (zfg_k (zfg_k (zfg_k (zfg_k (zfg_k zfg_e)))))
        · have H := zif_f q H
          refine V_iload1 eX0_doubled_102 ?_
          refine V_iconst (v := 1) (by decide) eX0_doubled_103 ?_
          refine V_aload3 eX0_doubled_104 (zrf_rf _) ?_
          refine D_gI eX0_doubled_105 fq_X0_382_tI H (fun v17 H => ?_)
          refine V_ishl eX0_doubled_108 ?_
          refine V_ior eX0_doubled_109 ?_
          refine V_istore1 (znl_rf _) eX0_doubled_110 rfl ?_
          exact V_fg2 (b_X0_doubled_111 hk30 H) (zfg_k (zfg_k (zfg_k (zfg_k (zfg_k zfg_e)))))
theorem b_X0_doubled_30 {w : Wd} {F : Nat} {k4 : Int32 → Int32 → M Int32} {x : Nat} {a2 : Int32} {a3 : Option Nat} (hk4 : ∀ (a1 : Int32) (a2 : Int32) (h : Hp) (y : Int32) (h1 : Hp) (c s : Nat), k4 a1 a2 h = some (y, h1, c, s) → V w mX0_doubled cX0_doubled 3 c s h 4 [some (va_rf (some x)), some (.int a1), some (.int a2), none, none] [] (Ro (oI y) h1)) : ∀ (n : Nat) (a1 : Int32) (a4 : Int32) (h : Hp) (y : Int32) (h1 : Hp) (c s : Nat), d_X0_doubled_30 w F k4 x a2 a3 n a1 a4 h = some (y, h1, c, s) → V w mX0_doubled cX0_doubled 3 c s h 30 [some (va_rf (some x)), some (.int a1), some (.int a2), some (va_rf a3), some (.int a4)] [] (Ro (oI y) h1) := by
  intro n
  induction n with
  | zero => intro a1 a4 h y h1 c s H; exact zno_no H
  | succ n ih => intro a1 a4 h y h1 c s H; exact bB_X0_doubled_30 hk4 ih H
theorem bB_X0_doubled_4 {w : Wd} {F : Nat} {k4 : Int32 → Int32 → M Int32} {x : Nat} (hk4 : ∀ (a1 : Int32) (a2 : Int32) (h : Hp) (y : Int32) (h1 : Hp) (c s : Nat), k4 a1 a2 h = some (y, h1, c, s) → V w mX0_doubled cX0_doubled 3 c s h 4 [some (va_rf (some x)), some (.int a1), some (.int a2), none, none] [] (Ro (oI y) h1)) {a1 : Int32} {a2 : Int32} {h h1 : Hp} {y : Int32} {c s : Nat} (H : B_X0_doubled_4 w F k4 x a1 a2 h = some (y, h1, c, s)) : V w mX0_doubled cX0_doubled 3 c s h 4 [some (va_rf (some x)), some (.int a1), some (.int a2), none, none] [] (Ro (oI y) h1) := by
  unfold B_X0_doubled_4 at H
  refine V_iload2 eX0_doubled_4 ?_
  refine V_aload0 eX0_doubled_5 (zrf_rf _) ?_
  refine D_gR eX0_doubled_6 fq_X0_154_tR H (fun v1 H => ?_)
  refine D_callI (pc' := 12) (st := [.int a2]) H (fun v h' c1 s1 e cb sb k => ?_) (fun v2 h c s H => ?_)
  · obtain ⟨a, hr, ha, hk, e9⟩ := zv1_ok e
    cases hr
    exact V_invokevirtual (k := 30) eX0_doubled_9 lmJ2_size q156 q157 rfl rfl q158 ha hk (c_J2_size e9) (hRet_oI _ _) rfl rfl rfl rfl (kOI k)
  refine V_if_icmpge eX0_doubled_12 (fun q => ?_) (fun q => ?_)
  · have H := zif_t q H
    refine V_iload1 eX0_doubled_123 ?_
    obtain ⟨rfl, rfl, rfl, rfl⟩ := zrt_ok H
    exact V_ireturn eX0_doubled_124 rfl ⟨rfl, rfl⟩
  · have H := zif_f q H
    refine V_aload0 eX0_doubled_15 (zrf_rf _) ?_
    refine D_gR eX0_doubled_16 fq_X0_154_tR H (fun v3 H => ?_)
    refine V_iload2 eX0_doubled_19 ?_
    refine D_callR (pc' := 23) (st := []) H (fun v h' c1 s1 e cb sb k => ?_) (fun v4 h c s H => ?_)
    · obtain ⟨a, hr, ha, hk, e9⟩ := zv1_ok e
      cases hr
      exact V_invokevirtual (k := 30) eX0_doubled_20 lmJ2_get q160 q161 rfl rfl q162 ha hk (c_J2_get e9) (hRet_oR _ _) rfl rfl rfl rfl (kOR k)
    refine D_cast eX0_doubled_23 q1275 y_X19_ok H (fun H => ?_)
    refine V_astore3 rfl eX0_doubled_26 rfl (zrf_rf _) ?_
    refine V_iconst (v := 0) (by decide) eX0_doubled_27 ?_
    refine V_istore4 (znl_rf _) eX0_doubled_28 rfl ?_
    exact V_fg2 (b_X0_doubled_30 hk4 _ _ _ _ _ _ _ _ H) (zfg_k (zfg_k (zfg_k (zfg_k (zfg_k zfg_e)))))
theorem b_X0_doubled_4 {w : Wd} {F : Nat} {x : Nat} : ∀ (n : Nat) (a1 : Int32) (a2 : Int32) (h : Hp) (y : Int32) (h1 : Hp) (c s : Nat), d_X0_doubled_4 w F x n a1 a2 h = some (y, h1, c, s) → V w mX0_doubled cX0_doubled 3 c s h 4 [some (va_rf (some x)), some (.int a1), some (.int a2), none, none] [] (Ro (oI y) h1) := by
  intro n
  induction n with
  | zero => intro a1 a2 h y h1 c s H; exact zno_no H
  | succ n ih => intro a1 a2 h y h1 c s H; exact bB_X0_doubled_4 ih H
theorem c_X0_doubled {w : Wd} {F : Nat} {x : Nat} {h h1 : Hp} {y : Int32} {c s : Nat} (H : o_X0_doubled w F x h = some (y, h1, c, s)) : Con w mX0_doubled cX0_doubled 3 c s [.ref x] h (Ro (oI y) h1) := by
  unfold o_X0_doubled at H
  refine Con.of (ls := [some (va_rf (some x)), none, none, none, none]) (by decide +kernel) rfl rfl ?_
  refine V_iconst (v := 0) (by decide) eX0_doubled_0 ?_
  refine V_istore1 (znl_rf _) eX0_doubled_1 rfl ?_
  refine V_iconst (v := 0) (by decide) eX0_doubled_2 ?_
  refine V_istore2 rfl eX0_doubled_3 rfl ?_
  exact V_fg2 (b_X0_doubled_4 _ _ _ _ _ _ _ _ H) (zfg_k (zfg_k (zfg_k (zfg_n (zfg_n zfg_e)))))
def f_X0_jobs : Nat → Option Nat := fun k => match k with
  | 0 => some 18
  | _ => none
theorem fq_X0_391_tI : FQ RX0 391 f_X0_jobs tI := by
  intro k j e
  unfold f_X0_jobs at e
  split at e
  · cases e; exact ⟨fl_X0_391_0, Or.inl rfl⟩
  · cases e
theorem fq_X0_391_tN : FQ RX0 391 f_X0_jobs tN := by
  intro k j e
  unfold f_X0_jobs at e
  split at e
  · cases e; exact ⟨fl_X0_391_0, rfl⟩
  · cases e
theorem fn_X0_hand_391 : FN mX0_hand 391 f_X0_jobs := by
  intro k j e
  unfold f_X0_jobs at e
  split at e
  · cases e; exact Or.inl rfl
  · cases e
def d_X0_hand_20 (w : Wd) (F : Nat) : M Int32 :=
  zrt (-2 : Int32)
def o_X0_hand (w : Wd) (F : Nat) (x : Nat) (a1 : Int32) (a2 : Int32) : M Int32 :=
  zbd (o_X0_in w F a1 (1 : Int32) (30 : Int32)) fun v1 =>
  zif (v1 = 0) (d_X0_hand_20 w F)
  (zbd (o_X0_in w F a2 (1 : Int32) (30 : Int32)) fun v2 =>
  zif (v2 = 0) (d_X0_hand_20 w F)
  (zbd (zgI f_X0_jobs (some x)) fun v3 =>
  zif (v3 = (7 : Int32)) (zrt (-4 : Int32))
  (zbd (zgR f_X0_survey (some x)) fun v4 =>
  zbd (zgI f_X0_jobs (some x)) fun v5 =>
  zbd (zsI 0 v4 v5 a1) fun _ =>
  zbd (zgR f_X0_press (some x)) fun v6 =>
  zbd (zgI f_X0_jobs (some x)) fun v7 =>
  zbd (zpI f_X0_jobs (some x) (v7 + (1 : Int32))) fun _ =>
  zbd (zsI 0 v6 v7 a2) fun _ =>
  zbd (zgI f_X0_jobs (some x)) fun v8 =>
  zrt v8)))
theorem b_X0_hand_20 {w : Wd} {F : Nat} {h h1 : Hp} {y : Int32} {c s : Nat} (H : d_X0_hand_20 w F h = some (y, h1, c, s)) : V w mX0_hand cX0_hand 1 c s h 20 [none, none, none] [] (Ro (oI y) h1) := by
  unfold d_X0_hand_20 at H
  refine V_bipush (v := -2) (by decide) eX0_hand_20 ?_
  obtain ⟨rfl, rfl, rfl, rfl⟩ := zrt_ok H
  exact V_ireturn eX0_hand_22 rfl ⟨rfl, rfl⟩
theorem c_X0_hand {w : Wd} {F : Nat} {x : Nat} {a1 : Int32} {a2 : Int32} {h h1 : Hp} {y : Int32} {c s : Nat} (H : o_X0_hand w F x a1 a2 h = some (y, h1, c, s)) : Con w mX0_hand cX0_hand 1 c s [.ref x, .int a1, .int a2] h (Ro (oI y) h1) := by
  unfold o_X0_hand at H
  refine Con.of (ls := [some (va_rf (some x)), some (.int a1), some (.int a2)]) (by decide +kernel) rfl rfl ?_
  refine V_iload1 eX0_hand_0 ?_
  refine V_iconst (v := 1) (by decide) eX0_hand_1 ?_
  refine V_bipush (v := 30) (by decide) eX0_hand_2 ?_
  refine D_callI (pc' := 7) (st := []) H (fun v h' c1 s1 e cb sb k => ?_) (fun v1 h c s H => ?_)
  · exact V_invokestatic eX0_hand_4 lmX0_in q149 q150 (c_X0_in e) (hRet_oI _ _) rfl rfl rfl rfl (kOI k)
  refine V_ifeq eX0_hand_7 (fun q => ?_) (fun q => ?_)
  · have H := zif_t q H
    exact V_fg2 (b_X0_hand_20 H) (zfg_n (zfg_n (zfg_n zfg_e)))
  · have H := zif_f q H
    refine V_iload2 eX0_hand_10 ?_
    refine V_iconst (v := 1) (by decide) eX0_hand_11 ?_
    refine V_bipush (v := 30) (by decide) eX0_hand_12 ?_
    refine D_callI (pc' := 17) (st := []) H (fun v h' c1 s1 e cb sb k => ?_) (fun v2 h c s H => ?_)
    · exact V_invokestatic eX0_hand_14 lmX0_in q149 q150 (c_X0_in e) (hRet_oI _ _) rfl rfl rfl rfl (kOI k)
    refine V_ifne eX0_hand_17 (fun q => ?_) (fun q => ?_)
    · have H := zif_f q H
      refine V_aload0 eX0_hand_23 (zrf_rf _) ?_
      refine D_gI eX0_hand_24 fq_X0_391_tI H (fun v3 H => ?_)
      refine V_bipush (v := 7) (by decide) eX0_hand_27 ?_
      refine V_if_icmpne eX0_hand_29 (fun q => ?_) (fun q => ?_)
      · have H := zif_f q H
        refine V_aload0 eX0_hand_35 (zrf_rf _) ?_
        refine D_gR eX0_hand_36 fq_X0_157_tR H (fun v4 H => ?_)
        refine V_aload0 eX0_hand_39 (zrf_rf _) ?_
        refine D_gI eX0_hand_40 fq_X0_391_tI H (fun v5 H => ?_)
        refine V_iload1 eX0_hand_43 ?_
        refine D_iastore eX0_hand_44 H (fun h H => ?_)
        refine V_aload0 eX0_hand_45 (zrf_rf _) ?_
        refine D_gR eX0_hand_46 fq_X0_160_tR H (fun v6 H => ?_)
        refine V_aload0 eX0_hand_49 (zrf_rf _) ?_
        refine V_dup (zcr _) eX0_hand_50 ?_
        refine D_gI eX0_hand_51 fq_X0_391_tI H (fun v7 H => ?_)
        refine V_dup_x1 rfl (zcr _) eX0_hand_54 ?_
        refine V_iconst (v := 1) (by decide) eX0_hand_55 ?_
        refine V_iadd eX0_hand_56 ?_
        refine D_pI eX0_hand_57 fq_X0_391_tN fn_X0_hand_391 H (fun h H => ?_)
        refine V_iload2 eX0_hand_60 ?_
        refine D_iastore eX0_hand_61 H (fun h H => ?_)
        refine V_aload0 eX0_hand_62 (zrf_rf _) ?_
        refine D_gI eX0_hand_63 fq_X0_391_tI H (fun v8 H => ?_)
        obtain ⟨rfl, rfl, rfl, rfl⟩ := zrt_ok H
        exact V_ireturn eX0_hand_66 rfl ⟨rfl, rfl⟩
      · have H := zif_t q H
        refine V_bipush (v := -4) (by decide) eX0_hand_32 ?_
        obtain ⟨rfl, rfl, rfl, rfl⟩ := zrt_ok H
        exact V_ireturn eX0_hand_34 rfl ⟨rfl, rfl⟩
    · have H := zif_t q H
      exact V_fg2 (b_X0_hand_20 H) (zfg_n (zfg_n (zfg_n zfg_e)))
def f_X0_bestMany : Nat → Option Nat := fun k => match k with
  | 0 => some 21
  | _ => none
theorem fq_X0_394_tI : FQ RX0 394 f_X0_bestMany tI := by
  intro k j e
  unfold f_X0_bestMany at e
  split at e
  · cases e; exact ⟨fl_X0_394_0, Or.inl rfl⟩
  · cases e
theorem fq_X0_394_tN : FQ RX0 394 f_X0_bestMany tN := by
  intro k j e
  unfold f_X0_bestMany at e
  split at e
  · cases e; exact ⟨fl_X0_394_0, rfl⟩
  · cases e
theorem fn_X0_goOn_394 : FN mX0_goOn 394 f_X0_bestMany := by
  intro k j e
  unfold f_X0_bestMany at e
  split at e
  · cases e; exact Or.inl rfl
  · cases e
def d_X0_goOn_117 (w : Wd) (F : Nat) (rX0_goOn : Nat → Int32 → Int32 → Int32 → Int32 → Int32 → M (Unit)) (k30 : Int32 → M Unit) (x : Nat) (a1 : Int32) (a2 : Int32) (a3 : Int32) (a4 : Int32) (a5 : Int32) (a6 : Int32) : M Unit :=
  k30 (a6 + (1 : Int32))
def B_X0_goOn_30 (w : Wd) (F : Nat) (rX0_goOn : Nat → Int32 → Int32 → Int32 → Int32 → Int32 → M (Unit)) (k30 : Int32 → M Unit) (x : Nat) (a1 : Int32) (a2 : Int32) (a3 : Int32) (a4 : Int32) (a5 : Int32) (a6 : Int32) : M Unit :=
  zbd (zgI f_X0_jobs (some x)) fun v2 =>
  zif (v2 ≤ a6) (zrt ())
  (zif (((a2 >>> (a6 &&& 31)) &&& (1 : Int32)) = (1 : Int32)) (d_X0_goOn_117 w F rX0_goOn k30 x a1 a2 a3 a4 a5 a6)
  (zbd (zgR f_X0_survey (some x)) fun v3 =>
  zbd (zaI 0 v3 a6) fun v4 =>
  zbd (o_J6_max w F (a3 + v4) a4) fun v5 =>
  zbd (zgR f_X0_press (some x)) fun v6 =>
  zbd (zaI 0 v6 a6) fun v7 =>
  zif ((v5 + v7) ≤ a5) (zbd (zgR f_X0_row (some x)) fun v8 =>
  zbd (zsI 0 v8 a1 a6) fun _ =>
  zbd (zv1 0 (some x) (fun a => rX0_goOn a (a1 + (1 : Int32)) (a2 ||| ((1 : Int32) <<< (a6 &&& 31))) (a3 + v4) (v5 + v7) a5)) fun _ =>
  d_X0_goOn_117 w F rX0_goOn k30 x a1 a2 a3 a4 a5 a6)
  (d_X0_goOn_117 w F rX0_goOn k30 x a1 a2 a3 a4 a5 a6)))
def d_X0_goOn_30 (w : Wd) (F : Nat) (rX0_goOn : Nat → Int32 → Int32 → Int32 → Int32 → Int32 → M (Unit)) (x : Nat) (a1 : Int32) (a2 : Int32) (a3 : Int32) (a4 : Int32) (a5 : Int32) : Nat → Int32 → M Unit
  | 0, _ => zno
  | n + 1, a6 => B_X0_goOn_30 w F rX0_goOn (d_X0_goOn_30 w F rX0_goOn x a1 a2 a3 a4 a5 n) x a1 a2 a3 a4 a5 a6
def d_X0_goOn_27 (w : Wd) (F : Nat) (rX0_goOn : Nat → Int32 → Int32 → Int32 → Int32 → Int32 → M (Unit)) (x : Nat) (a1 : Int32) (a2 : Int32) (a3 : Int32) (a4 : Int32) (a5 : Int32) : M Unit :=
  d_X0_goOn_30 w F rX0_goOn x a1 a2 a3 a4 a5 F (0 : Int32)
def o_X0_goOn (w : Wd) (F : Nat) (rX0_goOn : Nat → Int32 → Int32 → Int32 → Int32 → Int32 → M (Unit)) (x : Nat) (a1 : Int32) (a2 : Int32) (a3 : Int32) (a4 : Int32) (a5 : Int32) : M Unit :=
  zbd (zgI f_X0_bestMany (some x)) fun v1 =>
  zif (a1 ≤ v1) (d_X0_goOn_27 w F rX0_goOn x a1 a2 a3 a4 a5)
  (zbd (zpI f_X0_bestMany (some x) a1) fun _ =>
  zbd (zgR f_X0_row (some x)) fun v2 =>
  zbd (zgR f_X0_bestRow (some x)) fun v3 =>
  zbd (zcpy 0 v2 (0 : Int32) v3 (0 : Int32) a1) fun _ =>
  d_X0_goOn_27 w F rX0_goOn x a1 a2 a3 a4 a5)
theorem b_X0_goOn_117 {w : Wd} {F L0 k0 : Nat} {rX0_goOn : Nat → Int32 → Int32 → Int32 → Int32 → Int32 → M (Unit)} (hrX0_goOn : ∀ {x : Nat} {a1 : Int32} {a2 : Int32} {a3 : Int32} {a4 : Int32} {a5 : Int32} {h h1 : Hp} {y : Unit} {c s : Nat}, rX0_goOn x a1 a2 a3 a4 a5 h = some (y, h1, c, s) → Con w mX0_goOn cX0_goOn L0 c s [.ref x, .int a1, .int a2, .int a3, .int a4, .int a5] h (Ro (oU y) h1)) {k30 : Int32 → M Unit} {x : Nat} {a1 : Int32} {a2 : Int32} {a3 : Int32} {a4 : Int32} {a5 : Int32} (hk30 : ∀ (a6 : Int32) (h : Hp) (y : Unit) (h1 : Hp) (c s : Nat), k30 a6 h = some (y, h1, c, s) → V w mX0_goOn cX0_goOn (L0 + (k0 + 4)) c s h 30 [some (va_rf (some x)), some (.int a1), some (.int a2), some (.int a3), some (.int a4), some (.int a5), some (.int a6), none, none] [] (Ro (oU y) h1)) {a6 : Int32} {h h1 : Hp} {y : Unit} {c s : Nat} (H : d_X0_goOn_117 w F rX0_goOn k30 x a1 a2 a3 a4 a5 a6 h = some (y, h1, c, s)) : V w mX0_goOn cX0_goOn (L0 + (k0 + 4)) c s h 117 [some (va_rf (some x)), some (.int a1), some (.int a2), some (.int a3), some (.int a4), some (.int a5), some (.int a6), none, none] [] (Ro (oU y) h1) := by
  unfold d_X0_goOn_117 at H
  refine V_iinc6 rfl eX0_goOn_117 rfl (v := 1) (by decide) ?_
  refine V_goto eX0_goOn_120 ?_
  exact V_fg2 (hk30 _ _ _ _ _ _ H) (zfg_k (zfg_k (zfg_k (zfg_k (zfg_k (zfg_k (zfg_k (zfg_n (zfg_n zfg_e)))))))))
theorem bB_X0_goOn_30 {w : Wd} {F L0 k0 : Nat} {rX0_goOn : Nat → Int32 → Int32 → Int32 → Int32 → Int32 → M (Unit)} (hrX0_goOn : ∀ {x : Nat} {a1 : Int32} {a2 : Int32} {a3 : Int32} {a4 : Int32} {a5 : Int32} {h h1 : Hp} {y : Unit} {c s : Nat}, rX0_goOn x a1 a2 a3 a4 a5 h = some (y, h1, c, s) → Con w mX0_goOn cX0_goOn L0 c s [.ref x, .int a1, .int a2, .int a3, .int a4, .int a5] h (Ro (oU y) h1)) {k30 : Int32 → M Unit} {x : Nat} {a1 : Int32} {a2 : Int32} {a3 : Int32} {a4 : Int32} {a5 : Int32} (hk30 : ∀ (a6 : Int32) (h : Hp) (y : Unit) (h1 : Hp) (c s : Nat), k30 a6 h = some (y, h1, c, s) → V w mX0_goOn cX0_goOn (L0 + (k0 + 4)) c s h 30 [some (va_rf (some x)), some (.int a1), some (.int a2), some (.int a3), some (.int a4), some (.int a5), some (.int a6), none, none] [] (Ro (oU y) h1)) {a6 : Int32} {h h1 : Hp} {y : Unit} {c s : Nat} (H : B_X0_goOn_30 w F rX0_goOn k30 x a1 a2 a3 a4 a5 a6 h = some (y, h1, c, s)) : V w mX0_goOn cX0_goOn (L0 + (k0 + 4)) c s h 30 [some (va_rf (some x)), some (.int a1), some (.int a2), some (.int a3), some (.int a4), some (.int a5), some (.int a6), none, none] [] (Ro (oU y) h1) := by
  unfold B_X0_goOn_30 at H
  refine V_iload6 eX0_goOn_30 ?_
  refine V_aload0 eX0_goOn_32 (zrf_rf _) ?_
  refine D_gI eX0_goOn_33 fq_X0_391_tI H (fun v2 H => ?_)
  refine V_if_icmpge eX0_goOn_36 (fun q => ?_) (fun q => ?_)
  · have H := zif_t q H
    obtain ⟨rfl, rfl, rfl, rfl⟩ := zrt_ok H
    exact V_return (x := ()) eX0_goOn_123 rfl ⟨rfl, rfl⟩
  · have H := zif_f q H
    refine V_iload2 eX0_goOn_39 ?_
    refine V_iload6 eX0_goOn_40 ?_
    refine V_ishr eX0_goOn_42 ?_
    refine V_iconst (v := 1) (by decide) eX0_goOn_43 ?_
    refine V_iand eX0_goOn_44 ?_
    refine V_iconst (v := 1) (by decide) eX0_goOn_45 ?_
    refine V_if_icmpne eX0_goOn_46 (fun q => ?_) (fun q => ?_)
    · have H := zif_f q H
      refine V_iload3 eX0_goOn_52 ?_
      refine V_aload0 eX0_goOn_53 (zrf_rf _) ?_
      refine D_gR eX0_goOn_54 fq_X0_157_tR H (fun v3 H => ?_)
      refine V_iload6 eX0_goOn_57 ?_
      refine D_iaload eX0_goOn_59 H (fun v4 H => ?_)
      refine V_iadd eX0_goOn_60 ?_
      refine V_istore7 rfl eX0_goOn_61 rfl ?_
      refine V_iload7 eX0_goOn_63 ?_
      refine V_iload4 eX0_goOn_65 ?_
      refine D_callI (pc' := 70) (st := []) H (fun v h' c1 s1 e cb sb k => ?_) (fun v5 h c s H => ?_)
      · exact V_invokestatic eX0_goOn_67 lmJ6_max q936 q219 (c_J6_max e) (hRet_oI _ _) (zlt (by omega)) rfl rfl rfl (kOI k)
      refine V_aload0 eX0_goOn_70 (zrf_rf _) ?_
      refine D_gR eX0_goOn_71 fq_X0_160_tR H (fun v6 H => ?_)
      refine V_iload6 eX0_goOn_74 ?_
      refine D_iaload eX0_goOn_76 H (fun v7 H => ?_)
      refine V_iadd eX0_goOn_77 ?_
      refine V_istore8 rfl eX0_goOn_78 rfl ?_
      refine V_iload8 eX0_goOn_80 ?_
      refine V_iload5 eX0_goOn_82 ?_
      refine V_if_icmple eX0_goOn_84 (fun q => ?_) (fun q => ?_)
      · have H := zif_t q H
        refine V_aload0 eX0_goOn_90 (zrf_rf _) ?_
        refine D_gR eX0_goOn_91 fq_X0_163_tR H (fun v8 H => ?_)
        refine V_iload1 eX0_goOn_94 ?_
        refine V_iload6 eX0_goOn_95 ?_
        refine D_iastore eX0_goOn_97 H (fun h H => ?_)
        refine V_aload0 eX0_goOn_98 (zrf_rf _) ?_
        refine V_iload1 eX0_goOn_99 ?_
        refine V_iconst (v := 1) (by decide) eX0_goOn_100 ?_
        refine V_iadd eX0_goOn_101 ?_
        refine V_iload2 eX0_goOn_102 ?_
        refine V_iconst (v := 1) (by decide) eX0_goOn_103 ?_
        refine V_iload6 eX0_goOn_104 ?_
        refine V_ishl eX0_goOn_106 ?_
        refine V_ior eX0_goOn_107 ?_
        refine V_iload7 eX0_goOn_108 ?_
        refine V_iload8 eX0_goOn_110 ?_
        refine V_iload5 eX0_goOn_112 ?_
        refine D_callU (pc' := 117) (st := []) H (fun v h' c1 s1 e cb sb k => ?_) (fun v9 h c s H => ?_)
        · obtain ⟨a, hr, ha, hk, e9⟩ := zv1_ok e
          cases hr
          exact V_invokevirtual (k := 0) eX0_goOn_114 lmX0_goOn q1306 q1308 rfl rfl qs38 ha hk (hrX0_goOn e9) (hRet_oU _ _) (zlt (by omega)) rfl rfl rfl (kOU k)
        exact V_fg2 (b_X0_goOn_117 hrX0_goOn hk30 H) (zfg_k (zfg_k (zfg_k (zfg_k (zfg_k (zfg_k (zfg_k (zfg_n (zfg_n zfg_e)))))))))
      · have H := zif_f q H
        refine V_goto eX0_goOn_87 ?_
        exact V_fg2 (b_X0_goOn_117 hrX0_goOn hk30 H) (zfg_k (zfg_k (zfg_k (zfg_k (zfg_k (zfg_k (zfg_k (zfg_n (zfg_n zfg_e)))))))))
    · have H := zif_t q H
      refine V_goto eX0_goOn_49 ?_
      exact V_fg2 (b_X0_goOn_117 hrX0_goOn hk30 H) (zfg_k (zfg_k (zfg_k (zfg_k (zfg_k (zfg_k (zfg_k (zfg_n (zfg_n zfg_e)))))))))
theorem b_X0_goOn_30 {w : Wd} {F L0 k0 : Nat} {rX0_goOn : Nat → Int32 → Int32 → Int32 → Int32 → Int32 → M (Unit)} (hrX0_goOn : ∀ {x : Nat} {a1 : Int32} {a2 : Int32} {a3 : Int32} {a4 : Int32} {a5 : Int32} {h h1 : Hp} {y : Unit} {c s : Nat}, rX0_goOn x a1 a2 a3 a4 a5 h = some (y, h1, c, s) → Con w mX0_goOn cX0_goOn L0 c s [.ref x, .int a1, .int a2, .int a3, .int a4, .int a5] h (Ro (oU y) h1)) {x : Nat} {a1 : Int32} {a2 : Int32} {a3 : Int32} {a4 : Int32} {a5 : Int32} : ∀ (n : Nat) (a6 : Int32) (h : Hp) (y : Unit) (h1 : Hp) (c s : Nat), d_X0_goOn_30 w F rX0_goOn x a1 a2 a3 a4 a5 n a6 h = some (y, h1, c, s) → V w mX0_goOn cX0_goOn (L0 + (k0 + 4)) c s h 30 [some (va_rf (some x)), some (.int a1), some (.int a2), some (.int a3), some (.int a4), some (.int a5), some (.int a6), none, none] [] (Ro (oU y) h1) := by
  intro n
  induction n with
  | zero => intro a6 h y h1 c s H; exact zno_no H
  | succ n ih => intro a6 h y h1 c s H; exact bB_X0_goOn_30 hrX0_goOn ih H
theorem b_X0_goOn_27 {w : Wd} {F L0 k0 : Nat} {rX0_goOn : Nat → Int32 → Int32 → Int32 → Int32 → Int32 → M (Unit)} (hrX0_goOn : ∀ {x : Nat} {a1 : Int32} {a2 : Int32} {a3 : Int32} {a4 : Int32} {a5 : Int32} {h h1 : Hp} {y : Unit} {c s : Nat}, rX0_goOn x a1 a2 a3 a4 a5 h = some (y, h1, c, s) → Con w mX0_goOn cX0_goOn L0 c s [.ref x, .int a1, .int a2, .int a3, .int a4, .int a5] h (Ro (oU y) h1)) {x : Nat} {a1 : Int32} {a2 : Int32} {a3 : Int32} {a4 : Int32} {a5 : Int32} {h h1 : Hp} {y : Unit} {c s : Nat} (H : d_X0_goOn_27 w F rX0_goOn x a1 a2 a3 a4 a5 h = some (y, h1, c, s)) : V w mX0_goOn cX0_goOn (L0 + (k0 + 4)) c s h 27 [some (va_rf (some x)), some (.int a1), some (.int a2), some (.int a3), some (.int a4), some (.int a5), none, none, none] [] (Ro (oU y) h1) := by
  unfold d_X0_goOn_27 at H
  refine V_iconst (v := 0) (by decide) eX0_goOn_27 ?_
  refine V_istore6 rfl eX0_goOn_28 rfl ?_
  exact V_fg2 (b_X0_goOn_30 hrX0_goOn _ _ _ _ _ _ _ H) (zfg_k (zfg_k (zfg_k (zfg_k (zfg_k (zfg_k (zfg_k (zfg_n (zfg_n zfg_e)))))))))
theorem c_X0_goOn {w : Wd} {F L0 k0 : Nat} {rX0_goOn : Nat → Int32 → Int32 → Int32 → Int32 → Int32 → M (Unit)} (hrX0_goOn : ∀ {x : Nat} {a1 : Int32} {a2 : Int32} {a3 : Int32} {a4 : Int32} {a5 : Int32} {h h1 : Hp} {y : Unit} {c s : Nat}, rX0_goOn x a1 a2 a3 a4 a5 h = some (y, h1, c, s) → Con w mX0_goOn cX0_goOn L0 c s [.ref x, .int a1, .int a2, .int a3, .int a4, .int a5] h (Ro (oU y) h1)) {x : Nat} {a1 : Int32} {a2 : Int32} {a3 : Int32} {a4 : Int32} {a5 : Int32} {h h1 : Hp} {y : Unit} {c s : Nat} (H : o_X0_goOn w F rX0_goOn x a1 a2 a3 a4 a5 h = some (y, h1, c, s)) : Con w mX0_goOn cX0_goOn (L0 + (k0 + 4)) c s [.ref x, .int a1, .int a2, .int a3, .int a4, .int a5] h (Ro (oU y) h1) := by
  unfold o_X0_goOn at H
  refine Con.of (ls := [some (va_rf (some x)), some (.int a1), some (.int a2), some (.int a3), some (.int a4), some (.int a5), none, none, none]) (by decide +kernel) rfl rfl ?_
  refine V_iload1 eX0_goOn_0 ?_
  refine V_aload0 eX0_goOn_1 (zrf_rf _) ?_
  refine D_gI eX0_goOn_2 fq_X0_394_tI H (fun v1 H => ?_)
  refine V_if_icmple eX0_goOn_5 (fun q => ?_) (fun q => ?_)
  · have H := zif_t q H
    exact V_fg2 (b_X0_goOn_27 hrX0_goOn H) (zfg_k (zfg_k (zfg_k (zfg_k (zfg_k (zfg_k (zfg_n (zfg_n (zfg_n zfg_e)))))))))
  · have H := zif_f q H
    refine V_aload0 eX0_goOn_8 (zrf_rf _) ?_
    refine V_iload1 eX0_goOn_9 ?_
    refine D_pI eX0_goOn_10 fq_X0_394_tN fn_X0_goOn_394 H (fun h H => ?_)
    refine V_aload0 eX0_goOn_13 (zrf_rf _) ?_
    refine D_gR eX0_goOn_14 fq_X0_163_tR H (fun v2 H => ?_)
    refine V_iconst (v := 0) (by decide) eX0_goOn_17 ?_
    refine V_aload0 eX0_goOn_18 (zrf_rf _) ?_
    refine D_gR eX0_goOn_19 fq_X0_166_tR H (fun v3 H => ?_)
    refine V_iconst (v := 0) (by decide) eX0_goOn_22 ?_
    refine V_iload1 eX0_goOn_23 ?_
    refine D_acopy (cT := 0) eX0_goOn_24 q1310 q269 q268 q110 rfl rfl H (fun h H => ?_)
    exact V_fg2 (b_X0_goOn_27 hrX0_goOn H) (zfg_k (zfg_k (zfg_k (zfg_k (zfg_k (zfg_k (zfg_n (zfg_n (zfg_n zfg_e)))))))))
def z_X0_goOn (w : Wd) (F : Nat) : Nat → Nat → Int32 → Int32 → Int32 → Int32 → Int32 → M (Unit)
  | 0, _, _, _, _, _, _ => zno
  | n + 1, x, a1, a2, a3, a4, a5 => o_X0_goOn w F (z_X0_goOn w F n) x a1 a2 a3 a4 a5
theorem cz_X0_goOn {w : Wd} {F : Nat} : ∀ (n : Nat), ∀ {x : Nat} {a1 : Int32} {a2 : Int32} {a3 : Int32} {a4 : Int32} {a5 : Int32} {h h1 : Hp} {y : Unit} {c s : Nat}, z_X0_goOn w F n x a1 a2 a3 a4 a5 h = some (y, h1, c, s) → Con w mX0_goOn cX0_goOn (4 * n) c s [.ref x, .int a1, .int a2, .int a3, .int a4, .int a5] h (Ro (oU y) h1) := by
  intro n
  induction n with
  | zero => intro x a1 a2 a3 a4 a5 h h1 y c s H; exact zno_no H
  | succ n ih => intro x a1 a2 a3 a4 a5 h h1 y c s H; exact c_X0_goOn (k0 := 0) ih H
theorem fn_X0_midnight_394 : FN mX0_midnight 394 f_X0_bestMany := by
  intro k j e
  unfold f_X0_bestMany at e
  split at e
  · cases e; exact Or.inl rfl
  · cases e
def d_X0_midnight_65 (w : Wd) (F : Nat) (s0 : Int32) : M Int32 :=
  zrt s0
def o_X0_midnight (w : Wd) (F : Nat) (x : Nat) (a1 : Int32) (a2 : Int32) : M Int32 :=
  zif ((-1 : Int32) ≤ a2) (zbd (o_X0_in w F a1 (1 : Int32) (999 : Int32)) fun v1 =>
  zif (v1 = 0) (zrt (-2 : Int32))
  (zbd (zpI f_X0_bestMany (some x) (0 : Int32)) fun _ =>
  zbd (zv1 0 (some x) (fun a => z_X0_goOn w F 8 a (0 : Int32) (0 : Int32) (0 : Int32) (0 : Int32) a1)) fun _ =>
  zif (a2 = (-1 : Int32)) (zbd (zgI f_X0_bestMany (some x)) fun v6 =>
  d_X0_midnight_65 w F v6)
  (zbd (zgI f_X0_bestMany (some x)) fun v3 =>
  zif (v3 ≤ a2) (d_X0_midnight_65 w F (-1 : Int32))
  (zbd (zgR f_X0_bestRow (some x)) fun v4 =>
  zbd (zaI 0 v4 a2) fun v5 =>
  d_X0_midnight_65 w F v5))))
  (zrt (-1 : Int32))
theorem b_X0_midnight_65 {w : Wd} {F : Nat} {s0 : Int32} {h h1 : Hp} {y : Int32} {c s : Nat} (H : d_X0_midnight_65 w F s0 h = some (y, h1, c, s)) : V w mX0_midnight cX0_midnight 33 c s h 65 [none, none, none] [.int s0] (Ro (oI y) h1) := by
  unfold d_X0_midnight_65 at H
  obtain ⟨rfl, rfl, rfl, rfl⟩ := zrt_ok H
  exact V_ireturn eX0_midnight_65 rfl ⟨rfl, rfl⟩
theorem c_X0_midnight {w : Wd} {F : Nat} {x : Nat} {a1 : Int32} {a2 : Int32} {h h1 : Hp} {y : Int32} {c s : Nat} (H : o_X0_midnight w F x a1 a2 h = some (y, h1, c, s)) : Con w mX0_midnight cX0_midnight 33 c s [.ref x, .int a1, .int a2] h (Ro (oI y) h1) := by
  unfold o_X0_midnight at H
  refine Con.of (ls := [some (va_rf (some x)), some (.int a1), some (.int a2)]) (by decide +kernel) rfl rfl ?_
  refine V_iload2 eX0_midnight_0 ?_
  refine V_iconst (v := -1) (by decide) eX0_midnight_1 ?_
  refine V_if_icmpge eX0_midnight_2 (fun q => ?_) (fun q => ?_)
  · have H := zif_t q H
    refine V_iload1 eX0_midnight_7 ?_
    refine V_iconst (v := 1) (by decide) eX0_midnight_8 ?_
    refine V_sipush (v := 999) (by decide) eX0_midnight_9 ?_
    refine D_callI (pc' := 15) (st := []) H (fun v h' c1 s1 e cb sb k => ?_) (fun v1 h c s H => ?_)
    · exact V_invokestatic eX0_midnight_12 lmX0_in q149 q150 (c_X0_in e) (hRet_oI _ _) rfl rfl rfl rfl (kOI k)
    refine V_ifne eX0_midnight_15 (fun q => ?_) (fun q => ?_)
    · have H := zif_f q H
      refine V_aload0 eX0_midnight_21 (zrf_rf _) ?_
      refine V_iconst (v := 0) (by decide) eX0_midnight_22 ?_
      refine D_pI eX0_midnight_23 fq_X0_394_tN fn_X0_midnight_394 H (fun h H => ?_)
      refine V_aload0 eX0_midnight_26 (zrf_rf _) ?_
      refine V_iconst (v := 0) (by decide) eX0_midnight_27 ?_
      refine V_iconst (v := 0) (by decide) eX0_midnight_28 ?_
      refine V_iconst (v := 0) (by decide) eX0_midnight_29 ?_
      refine V_iconst (v := 0) (by decide) eX0_midnight_30 ?_
      refine V_iload1 eX0_midnight_31 ?_
      refine D_callU (pc' := 35) (st := []) H (fun v h' c1 s1 e cb sb k => ?_) (fun v2 h c s H => ?_)
      · obtain ⟨a, hr, ha, hk, e9⟩ := zv1_ok e
        cases hr
        exact V_invokevirtual (k := 0) eX0_midnight_32 lmX0_goOn q1306 q1308 rfl rfl qs38 ha hk (cz_X0_goOn 8 e9) (hRet_oU _ _) rfl rfl rfl rfl (kOU k)
      refine V_iload2 eX0_midnight_35 ?_
      refine V_iconst (v := -1) (by decide) eX0_midnight_36 ?_
      refine V_if_icmpne eX0_midnight_37 (fun q => ?_) (fun q => ?_)
      · have H := zif_f q H
        refine V_iload2 eX0_midnight_47 ?_
        refine V_aload0 eX0_midnight_48 (zrf_rf _) ?_
        refine D_gI eX0_midnight_49 fq_X0_394_tI H (fun v3 H => ?_)
        refine V_if_icmpge eX0_midnight_52 (fun q => ?_) (fun q => ?_)
        · have H := zif_t q H
          refine V_iconst (v := -1) (by decide) eX0_midnight_64 ?_
          exact V_fg2 (b_X0_midnight_65 H) (zfg_n (zfg_n (zfg_n zfg_e)))
        · have H := zif_f q H
          refine V_aload0 eX0_midnight_55 (zrf_rf _) ?_
          refine D_gR eX0_midnight_56 fq_X0_166_tR H (fun v4 H => ?_)
          refine V_iload2 eX0_midnight_59 ?_
          refine D_iaload eX0_midnight_60 H (fun v5 H => ?_)
          refine V_goto eX0_midnight_61 ?_
          exact V_fg2 (b_X0_midnight_65 H) (zfg_n (zfg_n (zfg_n zfg_e)))
      · have H := zif_t q H
        refine V_aload0 eX0_midnight_40 (zrf_rf _) ?_
        refine D_gI eX0_midnight_41 fq_X0_394_tI H (fun v6 H => ?_)
        refine V_goto eX0_midnight_44 ?_
        exact V_fg2 (b_X0_midnight_65 H) (zfg_n (zfg_n (zfg_n zfg_e)))
    · have H := zif_t q H
      refine V_bipush (v := -2) (by decide) eX0_midnight_18 ?_
      obtain ⟨rfl, rfl, rfl, rfl⟩ := zrt_ok H
      exact V_ireturn eX0_midnight_20 rfl ⟨rfl, rfl⟩
  · have H := zif_f q H
    refine V_iconst (v := -1) (by decide) eX0_midnight_5 ?_
    obtain ⟨rfl, rfl, rfl, rfl⟩ := zrt_ok H
    exact V_ireturn eX0_midnight_6 rfl ⟨rfl, rfl⟩
def B_X13_left_16 (w : Wd) (F : Nat) (k16 : Int32 → Int32 → M Int32) (a2 : Option Nat) (a3 : Int32) (a1 : Int32) (a4 : Int32) : M Int32 :=
  zif (a3 ≤ a4) (zrt a1)
  (zbd (zaI 0 a2 a4) fun v4 =>
  k16 (a1 - v4) (a4 + (1 : Int32)))
def d_X13_left_16 (w : Wd) (F : Nat) (a2 : Option Nat) (a3 : Int32) : Nat → Int32 → Int32 → M Int32
  | 0, _, _ => zno
  | n + 1, a1, a4 => B_X13_left_16 w F (d_X13_left_16 w F a2 a3 n) a2 a3 a1 a4
def o_X13_left (w : Wd) (F : Nat) (x : Nat) : M Int32 :=
  zbd (zgI f_X13_shares (some x)) fun v1 =>
  zbd (zgR f_X13_held (some x)) fun v2 =>
  zbd (zal v2) fun v3 =>
  d_X13_left_16 w F v2 v3 F v1 (0 : Int32)
theorem bB_X13_left_16 {w : Wd} {F : Nat} {k16 : Int32 → Int32 → M Int32} {a2 : Option Nat} {a3 : Int32} (hk16 : ∀ (a1 : Int32) (a4 : Int32) (h : Hp) (y : Int32) (h1 : Hp) (c s : Nat), k16 a1 a4 h = some (y, h1, c, s) → V w mX13_left cX13_left 0 c s h 16 [none, some (.int a1), some (va_rf a2), some (.int a3), some (.int a4), none] [] (Ro (oI y) h1)) {a1 : Int32} {a4 : Int32} {h h1 : Hp} {y : Int32} {c s : Nat} (H : B_X13_left_16 w F k16 a2 a3 a1 a4 h = some (y, h1, c, s)) : V w mX13_left cX13_left 0 c s h 16 [none, some (.int a1), some (va_rf a2), some (.int a3), some (.int a4), none] [] (Ro (oI y) h1) := by
  unfold B_X13_left_16 at H
  refine V_iload4 eX13_left_16 ?_
  refine V_iload3 eX13_left_18 ?_
  refine V_if_icmpge eX13_left_19 (fun q => ?_) (fun q => ?_)
  · have H := zif_t q H
    refine V_iload1 eX13_left_39 ?_
    obtain ⟨rfl, rfl, rfl, rfl⟩ := zrt_ok H
    exact V_ireturn eX13_left_40 rfl ⟨rfl, rfl⟩
  · have H := zif_f q H
    refine V_aload2 eX13_left_22 (zrf_rf _) ?_
    refine V_iload4 eX13_left_23 ?_
    refine D_iaload eX13_left_25 H (fun v4 H => ?_)
    refine V_istore5 rfl eX13_left_26 rfl ?_
    refine V_iload1 eX13_left_28 ?_
    refine V_iload5 eX13_left_29 ?_
    refine V_isub eX13_left_31 ?_
    refine V_istore1 rfl eX13_left_32 rfl ?_
    refine V_iinc4 rfl eX13_left_33 rfl (v := 1) (by decide) ?_
    refine V_goto eX13_left_36 ?_
    exact V_fg2 (hk16 _ _ _ _ _ _ _ H) (zfg_n (zfg_k (zfg_k (zfg_k (zfg_k (zfg_n zfg_e))))))
theorem b_X13_left_16 {w : Wd} {F : Nat} {a2 : Option Nat} {a3 : Int32} : ∀ (n : Nat) (a1 : Int32) (a4 : Int32) (h : Hp) (y : Int32) (h1 : Hp) (c s : Nat), d_X13_left_16 w F a2 a3 n a1 a4 h = some (y, h1, c, s) → V w mX13_left cX13_left 0 c s h 16 [none, some (.int a1), some (va_rf a2), some (.int a3), some (.int a4), none] [] (Ro (oI y) h1) := by
  intro n
  induction n with
  | zero => intro a1 a4 h y h1 c s H; exact zno_no H
  | succ n ih => intro a1 a4 h y h1 c s H; exact bB_X13_left_16 ih H
theorem c_X13_left {w : Wd} {F : Nat} {x : Nat} {h h1 : Hp} {y : Int32} {c s : Nat} (H : o_X13_left w F x h = some (y, h1, c, s)) : Con w mX13_left cX13_left 0 c s [.ref x] h (Ro (oI y) h1) := by
  unfold o_X13_left at H
  refine Con.of (ls := [some (va_rf (some x)), none, none, none, none, none]) (by decide +kernel) rfl rfl ?_
  refine V_aload0 eX13_left_0 (zrf_rf _) ?_
  refine D_gI eX13_left_1 fq_X13_35_tI H (fun v1 H => ?_)
  refine V_istore1 (znl_rf _) eX13_left_4 rfl ?_
  refine V_aload0 eX13_left_5 (zrf_rf _) ?_
  refine D_gR eX13_left_6 fq_X13_18_tR H (fun v2 H => ?_)
  refine V_astore2 rfl eX13_left_9 rfl (zrf_rf _) ?_
  refine V_aload2 eX13_left_10 (zrf_rf _) ?_
  refine D_arraylength eX13_left_11 H (fun v3 H => ?_)
  refine V_istore3 (znl_rf _) eX13_left_12 rfl ?_
  refine V_iconst (v := 0) (by decide) eX13_left_13 ?_
  refine V_istore4 rfl eX13_left_14 rfl ?_
  exact V_fg2 (b_X13_left_16 _ _ _ _ _ _ _ _ H) (zfg_n (zfg_k (zfg_k (zfg_k (zfg_k (zfg_n zfg_e))))))
theorem fq_X0_407_tI : FQ RX0 407 f_X13_fallen tI := by
  intro k j e
  unfold f_X13_fallen at e
  split at e
  · cases e; exact ⟨fl_X0_407_13, Or.inr (Or.inl rfl)⟩
  · cases e; exact ⟨fl_X0_407_15, Or.inr (Or.inl rfl)⟩
  · cases e; exact ⟨fl_X0_407_18, Or.inr (Or.inl rfl)⟩
  · cases e
def t_X13_left (w : Wd) (F : Nat) : Nat → Option (Nat → M Int32) := fun k => match k with
  | 13 => some (fun a => o_X13_left w F a)
  | 15 => some (fun a => o_X13_left w F a)
  | 18 => some (fun a => o_X13_left w F a)
  | _ => none
theorem t_X13_left_ok {w : Wd} {F : Nat} {k : Nat} {f : Nat → M Int32} (e : t_X13_left w F k = some f) : (k = 13 ∧ f = fun a => o_X13_left w F a) ∨ (k = 15 ∧ f = fun a => o_X13_left w F a) ∨ (k = 18 ∧ f = fun a => o_X13_left w F a) := by
  unfold t_X13_left at e
  split at e
  · cases e; exact Or.inl ⟨rfl, rfl⟩
  · cases e; exact Or.inr (Or.inl ⟨rfl, rfl⟩)
  · cases e; exact Or.inr (Or.inr (⟨rfl, rfl⟩))
  · cases e
theorem fq_X0_412_tR : FQ RX0 412 f_X13_held tR := by
  intro k j e
  unfold f_X13_held at e
  split at e
  · cases e; exact ⟨fl_X0_412_13, Or.inr ⟨_, rfl⟩⟩
  · cases e; exact ⟨fl_X0_412_15, Or.inr ⟨_, rfl⟩⟩
  · cases e; exact ⟨fl_X0_412_18, Or.inr ⟨_, rfl⟩⟩
  · cases e
def d_X0_scrip_19 (w : Wd) (F : Nat) : M Int32 :=
  zrt (-1 : Int32)
def d_X0_scrip_51 (w : Wd) (F : Nat) : M Int32 :=
  zrt (-3 : Int32)
def o_X0_scrip (w : Wd) (F : Nat) (x : Nat) (a1 : Int32) (a2 : Int32) (a3 : Int32) : M Int32 :=
  zbd (zv1 0 (some x) (fun a => o_X0_schemeAt w F a a1)) fun v1 =>
  zif (v1 = none) (d_X0_scrip_19 w F)
  (zbd (o_X0_isHolder w F a2) fun v2 =>
  zif (v2 = 0) (d_X0_scrip_19 w F)
  (zbd (o_X0_in w F a3 (1 : Int32) (99 : Int32)) fun v3 =>
  zif (v3 = 0) (zrt (-2 : Int32))
  (zbd (zgI f_X13_fallen v1) fun v4 =>
  zif (v4 = 0) (zbd (zvn (t_X13_left w F) v1) fun v5 =>
  zif (a3 ≤ v5) (zbd (zgR f_X13_held v1) fun v6 =>
  zbd (zaI 0 v6 a2) fun v7 =>
  zbd (zsI 0 v6 a2 (v7 + a3)) fun _ =>
  zbd (zgR f_X13_held v1) fun v8 =>
  zbd (zaI 0 v8 a2) fun v9 =>
  zrt v9)
  (d_X0_scrip_51 w F))
  (d_X0_scrip_51 w F))))
theorem b_X0_scrip_19 {w : Wd} {F : Nat} {h h1 : Hp} {y : Int32} {c s : Nat} (H : d_X0_scrip_19 w F h = some (y, h1, c, s)) : V w mX0_scrip cX0_scrip 5 c s h 19 [none, none, none, none, none] [] (Ro (oI y) h1) := by
  unfold d_X0_scrip_19 at H
  refine V_iconst (v := -1) (by decide) eX0_scrip_19 ?_
  obtain ⟨rfl, rfl, rfl, rfl⟩ := zrt_ok H
  exact V_ireturn eX0_scrip_20 rfl ⟨rfl, rfl⟩
theorem b_X0_scrip_51 {w : Wd} {F : Nat} {h h1 : Hp} {y : Int32} {c s : Nat} (H : d_X0_scrip_51 w F h = some (y, h1, c, s)) : V w mX0_scrip cX0_scrip 5 c s h 51 [none, none, none, none, none] [] (Ro (oI y) h1) := by
  unfold d_X0_scrip_51 at H
  refine V_bipush (v := -3) (by decide) eX0_scrip_51 ?_
  obtain ⟨rfl, rfl, rfl, rfl⟩ := zrt_ok H
  exact V_ireturn eX0_scrip_53 rfl ⟨rfl, rfl⟩
theorem c_X0_scrip {w : Wd} {F : Nat} {x : Nat} {a1 : Int32} {a2 : Int32} {a3 : Int32} {h h1 : Hp} {y : Int32} {c s : Nat} (H : o_X0_scrip w F x a1 a2 a3 h = some (y, h1, c, s)) : Con w mX0_scrip cX0_scrip 5 c s [.ref x, .int a1, .int a2, .int a3] h (Ro (oI y) h1) := by
  unfold o_X0_scrip at H
  refine Con.of (ls := [some (va_rf (some x)), some (.int a1), some (.int a2), some (.int a3), none]) (by decide +kernel) rfl rfl ?_
  refine V_aload0 eX0_scrip_0 (zrf_rf _) ?_
  refine V_iload1 eX0_scrip_1 ?_
  refine D_callR (pc' := 5) (st := []) H (fun v h' c1 s1 e cb sb k => ?_) (fun v1 h c s H => ?_)
  · obtain ⟨a, hr, ha, hk, e9⟩ := zv1_ok e
    cases hr
    exact V_invokevirtual (k := 0) eX0_scrip_2 lmX0_schemeAt q802 q804 rfl rfl qs21 ha hk (c_X0_schemeAt e9) (hRet_oR _ _) rfl rfl rfl rfl (kOR k)
  refine V_astore4 rfl eX0_scrip_5 rfl (zrf_rf _) ?_
  refine V_aload4 eX0_scrip_7 (zrf_rf _) ?_
  refine V_ifnull eX0_scrip_9 (fun q => ?_) (fun a q => ?_)
  · have H := zif_t q H
    exact V_fg2 (b_X0_scrip_19 H) (zfg_n (zfg_n (zfg_n (zfg_n (zfg_n zfg_e)))))
  · have H := zif_f (zsn q) H
    refine V_iload2 eX0_scrip_12 ?_
    refine D_callI (pc' := 16) (st := []) H (fun v h' c1 s1 e cb sb k => ?_) (fun v2 h c s H => ?_)
    · exact V_invokestatic eX0_scrip_13 lmX0_isHolder q276 q277 (c_X0_isHolder e) (hRet_oI _ _) rfl rfl rfl rfl (kOI k)
    refine V_ifne eX0_scrip_16 (fun q => ?_) (fun q => ?_)
    · have H := zif_f q H
      refine V_iload3 eX0_scrip_21 ?_
      refine V_iconst (v := 1) (by decide) eX0_scrip_22 ?_
      refine V_bipush (v := 99) (by decide) eX0_scrip_23 ?_
      refine D_callI (pc' := 28) (st := []) H (fun v h' c1 s1 e cb sb k => ?_) (fun v3 h c s H => ?_)
      · exact V_invokestatic eX0_scrip_25 lmX0_in q149 q150 (c_X0_in e) (hRet_oI _ _) rfl rfl rfl rfl (kOI k)
      refine V_ifne eX0_scrip_28 (fun q => ?_) (fun q => ?_)
      · have H := zif_f q H
        refine V_aload4 eX0_scrip_34 (zrf_rf _) ?_
        refine D_gI eX0_scrip_36 fq_X0_407_tI H (fun v4 H => ?_)
        refine V_ifne eX0_scrip_39 (fun q => ?_) (fun q => ?_)
        · have H := zif_f q H
          exact V_fg2 (b_X0_scrip_51 H) (zfg_n (zfg_n (zfg_n (zfg_n (zfg_n zfg_e)))))
        · have H := zif_t q H
          refine V_iload3 eX0_scrip_42 ?_
          refine V_aload4 eX0_scrip_43 (zrf_rf _) ?_
          refine D_callI (pc' := 48) (st := [.int a3]) H (fun v h' c1 s1 e cb sb k => ?_) (fun v5 h c s H => ?_)
          · obtain ⟨a, f, hr, ha, ht, e9⟩ := zvn_ok e
            cases hr
            rcases t_X13_left_ok ht with ⟨hk, hf⟩ | ⟨hk, hf⟩ | ⟨hk, hf⟩
            · subst hf; exact V_invokevirtualU (k := 13) eX0_scrip_45 lmX13_left (⟨"LinesPromised$Scheme", q1315, q1318, q1317, q1316, q125, ⟨by decide, by decide⟩, rfl, Or.inl rfl⟩) (by decide) ha hk (c_X13_left e9) (hRet_oI _ _) rfl rfl rfl rfl (kOI k)
            · subst hf; exact V_invokevirtualU (k := 15) eX0_scrip_45 lmX13_left (⟨"LinesPromised$Scheme", q1315, q1318, q1320, q1316, q125, ⟨by decide, by decide⟩, rfl, Or.inl rfl⟩) (by decide) ha hk (c_X13_left e9) (hRet_oI _ _) rfl rfl rfl rfl (kOI k)
            · subst hf; exact V_invokevirtualU (k := 18) eX0_scrip_45 lmX13_left (⟨"LinesPromised$Scheme", q1315, q1318, q1319, q1316, q125, ⟨by decide, by decide⟩, rfl, Or.inl rfl⟩) (by decide) ha hk (c_X13_left e9) (hRet_oI _ _) rfl rfl rfl rfl (kOI k)
          refine V_if_icmple eX0_scrip_48 (fun q => ?_) (fun q => ?_)
          · have H := zif_t q H
            refine V_aload4 eX0_scrip_54 (zrf_rf _) ?_
            refine D_gR eX0_scrip_56 fq_X0_412_tR H (fun v6 H => ?_)
            refine V_iload2 eX0_scrip_59 ?_
            refine V_dup2 rfl (zcr _) eX0_scrip_60 ?_
            refine D_iaload eX0_scrip_61 H (fun v7 H => ?_)
            refine V_iload3 eX0_scrip_62 ?_
            refine V_iadd eX0_scrip_63 ?_
            refine D_iastore eX0_scrip_64 H (fun h H => ?_)
            refine V_aload4 eX0_scrip_65 (zrf_rf _) ?_
            refine D_gR eX0_scrip_67 fq_X0_412_tR H (fun v8 H => ?_)
            refine V_iload2 eX0_scrip_70 ?_
            refine D_iaload eX0_scrip_71 H (fun v9 H => ?_)
            obtain ⟨rfl, rfl, rfl, rfl⟩ := zrt_ok H
            exact V_ireturn eX0_scrip_72 rfl ⟨rfl, rfl⟩
          · have H := zif_f q H
            exact V_fg2 (b_X0_scrip_51 H) (zfg_n (zfg_n (zfg_n (zfg_n (zfg_n zfg_e)))))
      · have H := zif_t q H
        refine V_bipush (v := -2) (by decide) eX0_scrip_31 ?_
        obtain ⟨rfl, rfl, rfl, rfl⟩ := zrt_ok H
        exact V_ireturn eX0_scrip_33 rfl ⟨rfl, rfl⟩
    · have H := zif_t q H
      exact V_fg2 (b_X0_scrip_19 H) (zfg_n (zfg_n (zfg_n (zfg_n (zfg_n zfg_e)))))
def d_X0_held_20 (w : Wd) (F : Nat) : M Int32 :=
  zrt (-1 : Int32)
def d_X0_held_41 (w : Wd) (F : Nat) (s0 : Int32) : M Int32 :=
  zrt s0
def o_X0_held (w : Wd) (F : Nat) (x : Nat) (a1 : Int32) (a2 : Int32) : M Int32 :=
  zbd (zv1 0 (some x) (fun a => o_X0_schemeAt w F a a1)) fun v1 =>
  zif (v1 = none) (d_X0_held_20 w F)
  (zbd (o_X0_in w F a2 (0 : Int32) (8 : Int32)) fun v2 =>
  zif (v2 = 0) (d_X0_held_20 w F)
  (zif (a2 = (8 : Int32)) (zbd (zvn (t_X13_left w F) v1) fun v5 =>
  d_X0_held_41 w F v5)
  (zbd (zgR f_X13_held v1) fun v3 =>
  zbd (zaI 0 v3 a2) fun v4 =>
  d_X0_held_41 w F v4)))
theorem b_X0_held_20 {w : Wd} {F : Nat} {h h1 : Hp} {y : Int32} {c s : Nat} (H : d_X0_held_20 w F h = some (y, h1, c, s)) : V w mX0_held cX0_held 5 c s h 20 [none, none, none, none] [] (Ro (oI y) h1) := by
  unfold d_X0_held_20 at H
  refine V_iconst (v := -1) (by decide) eX0_held_20 ?_
  obtain ⟨rfl, rfl, rfl, rfl⟩ := zrt_ok H
  exact V_ireturn eX0_held_21 rfl ⟨rfl, rfl⟩
theorem b_X0_held_41 {w : Wd} {F : Nat} {s0 : Int32} {h h1 : Hp} {y : Int32} {c s : Nat} (H : d_X0_held_41 w F s0 h = some (y, h1, c, s)) : V w mX0_held cX0_held 5 c s h 41 [none, none, none, none] [.int s0] (Ro (oI y) h1) := by
  unfold d_X0_held_41 at H
  obtain ⟨rfl, rfl, rfl, rfl⟩ := zrt_ok H
  exact V_ireturn eX0_held_41 rfl ⟨rfl, rfl⟩
theorem c_X0_held {w : Wd} {F : Nat} {x : Nat} {a1 : Int32} {a2 : Int32} {h h1 : Hp} {y : Int32} {c s : Nat} (H : o_X0_held w F x a1 a2 h = some (y, h1, c, s)) : Con w mX0_held cX0_held 5 c s [.ref x, .int a1, .int a2] h (Ro (oI y) h1) := by
  unfold o_X0_held at H
  refine Con.of (ls := [some (va_rf (some x)), some (.int a1), some (.int a2), none]) (by decide +kernel) rfl rfl ?_
  refine V_aload0 eX0_held_0 (zrf_rf _) ?_
  refine V_iload1 eX0_held_1 ?_
  refine D_callR (pc' := 5) (st := []) H (fun v h' c1 s1 e cb sb k => ?_) (fun v1 h c s H => ?_)
  · obtain ⟨a, hr, ha, hk, e9⟩ := zv1_ok e
    cases hr
    exact V_invokevirtual (k := 0) eX0_held_2 lmX0_schemeAt q802 q804 rfl rfl qs21 ha hk (c_X0_schemeAt e9) (hRet_oR _ _) rfl rfl rfl rfl (kOR k)
  refine V_astore3 rfl eX0_held_5 rfl (zrf_rf _) ?_
  refine V_aload3 eX0_held_6 (zrf_rf _) ?_
  refine V_ifnull eX0_held_7 (fun q => ?_) (fun a q => ?_)
  · have H := zif_t q H
    exact V_fg2 (b_X0_held_20 H) (zfg_n (zfg_n (zfg_n (zfg_n zfg_e))))
  · have H := zif_f (zsn q) H
    refine V_iload2 eX0_held_10 ?_
    refine V_iconst (v := 0) (by decide) eX0_held_11 ?_
    refine V_bipush (v := 8) (by decide) eX0_held_12 ?_
    refine D_callI (pc' := 17) (st := []) H (fun v h' c1 s1 e cb sb k => ?_) (fun v2 h c s H => ?_)
    · exact V_invokestatic eX0_held_14 lmX0_in q149 q150 (c_X0_in e) (hRet_oI _ _) rfl rfl rfl rfl (kOI k)
    refine V_ifne eX0_held_17 (fun q => ?_) (fun q => ?_)
    · have H := zif_f q H
      refine V_iload2 eX0_held_22 ?_
      refine V_bipush (v := 8) (by decide) eX0_held_23 ?_
      refine V_if_icmpne eX0_held_25 (fun q => ?_) (fun q => ?_)
      · have H := zif_f q H
        refine V_aload3 eX0_held_35 (zrf_rf _) ?_
        refine D_gR eX0_held_36 fq_X0_412_tR H (fun v3 H => ?_)
        refine V_iload2 eX0_held_39 ?_
        refine D_iaload eX0_held_40 H (fun v4 H => ?_)
        exact V_fg2 (b_X0_held_41 H) (zfg_n (zfg_n (zfg_n (zfg_n zfg_e))))
      · have H := zif_t q H
        refine V_aload3 eX0_held_28 (zrf_rf _) ?_
        refine D_callI (pc' := 32) (st := []) H (fun v h' c1 s1 e cb sb k => ?_) (fun v5 h c s H => ?_)
        · obtain ⟨a, f, hr, ha, ht, e9⟩ := zvn_ok e
          cases hr
          rcases t_X13_left_ok ht with ⟨hk, hf⟩ | ⟨hk, hf⟩ | ⟨hk, hf⟩
          · subst hf; exact V_invokevirtualU (k := 13) eX0_held_29 lmX13_left (⟨"LinesPromised$Scheme", q1315, q1318, q1317, q1316, q125, ⟨by decide, by decide⟩, rfl, Or.inl rfl⟩) (by decide) ha hk (c_X13_left e9) (hRet_oI _ _) rfl rfl rfl rfl (kOI k)
          · subst hf; exact V_invokevirtualU (k := 15) eX0_held_29 lmX13_left (⟨"LinesPromised$Scheme", q1315, q1318, q1320, q1316, q125, ⟨by decide, by decide⟩, rfl, Or.inl rfl⟩) (by decide) ha hk (c_X13_left e9) (hRet_oI _ _) rfl rfl rfl rfl (kOI k)
          · subst hf; exact V_invokevirtualU (k := 18) eX0_held_29 lmX13_left (⟨"LinesPromised$Scheme", q1315, q1318, q1319, q1316, q125, ⟨by decide, by decide⟩, rfl, Or.inl rfl⟩) (by decide) ha hk (c_X13_left e9) (hRet_oI _ _) rfl rfl rfl rfl (kOI k)
        refine V_goto eX0_held_32 ?_
        exact V_fg2 (b_X0_held_41 H) (zfg_n (zfg_n (zfg_n (zfg_n zfg_e))))
    · have H := zif_t q H
      exact V_fg2 (b_X0_held_20 H) (zfg_n (zfg_n (zfg_n (zfg_n zfg_e))))
def f_X13_coins : Nat → Option Nat := fun k => match k with
  | 13 => some 7
  | 15 => some 7
  | 18 => some 7
  | _ => none
theorem fq_X0_415_tL : FQ RX0 415 f_X13_coins tL := by
  intro k j e
  unfold f_X13_coins at e
  split at e
  · cases e; exact ⟨fl_X0_415_13, rfl⟩
  · cases e; exact ⟨fl_X0_415_15, rfl⟩
  · cases e; exact ⟨fl_X0_415_18, rfl⟩
  · cases e
def d_X0_purse_49 (w : Wd) (F : Nat) (s0 : Int32) : M Int32 :=
  zrt s0
def d_X0_purse_48 (w : Wd) (F : Nat) : M Int32 :=
  d_X0_purse_49 w F (-1 : Int32)
def d_X0_purse_22 (w : Wd) (F : Nat) (s0 : Int32) : M Int32 :=
  zrt s0
def o_X0_purse (w : Wd) (F : Nat) (x : Nat) (a1 : Int32) (a2 : Int32) : M Int32 :=
  zif (a1 = 0) (zbd (o_X0_isHolder w F a2) fun v4 =>
  zif (v4 = 0) (d_X0_purse_22 w F (-1 : Int32))
  (zbd (zgR f_X0_coins (some x)) fun v5 =>
  zbd (zaL v5 a2) fun v6 =>
  d_X0_purse_22 w F (v6).toInt32))
  (zif (a1 = (1 : Int32)) (zbd (zv1 0 (some x) (fun a => o_X0_schemeAt w F a a2)) fun v1 =>
  zif (v1 = none) (d_X0_purse_48 w F)
  (zbd (zv1 0 (some x) (fun a => o_X0_schemeAt w F a a2)) fun v2 =>
  zbd (zgL f_X13_coins v2) fun v3 =>
  d_X0_purse_49 w F (v3).toInt32))
  (d_X0_purse_48 w F))
theorem b_X0_purse_49 {w : Wd} {F : Nat} {s0 : Int32} {h h1 : Hp} {y : Int32} {c s : Nat} (H : d_X0_purse_49 w F s0 h = some (y, h1, c, s)) : V w mX0_purse cX0_purse 5 c s h 49 [none, none, none] [.int s0] (Ro (oI y) h1) := by
  unfold d_X0_purse_49 at H
  obtain ⟨rfl, rfl, rfl, rfl⟩ := zrt_ok H
  exact V_ireturn eX0_purse_49 rfl ⟨rfl, rfl⟩
theorem b_X0_purse_48 {w : Wd} {F : Nat} {h h1 : Hp} {y : Int32} {c s : Nat} (H : d_X0_purse_48 w F h = some (y, h1, c, s)) : V w mX0_purse cX0_purse 5 c s h 48 [none, none, none] [] (Ro (oI y) h1) := by
  unfold d_X0_purse_48 at H
  refine V_iconst (v := -1) (by decide) eX0_purse_48 ?_
  exact V_fg2 (b_X0_purse_49 H) (zfg_n (zfg_n (zfg_n zfg_e)))
theorem b_X0_purse_22 {w : Wd} {F : Nat} {s0 : Int32} {h h1 : Hp} {y : Int32} {c s : Nat} (H : d_X0_purse_22 w F s0 h = some (y, h1, c, s)) : V w mX0_purse cX0_purse 5 c s h 22 [none, none, none] [.int s0] (Ro (oI y) h1) := by
  unfold d_X0_purse_22 at H
  obtain ⟨rfl, rfl, rfl, rfl⟩ := zrt_ok H
  exact V_ireturn eX0_purse_22 rfl ⟨rfl, rfl⟩
theorem c_X0_purse {w : Wd} {F : Nat} {x : Nat} {a1 : Int32} {a2 : Int32} {h h1 : Hp} {y : Int32} {c s : Nat} (H : o_X0_purse w F x a1 a2 h = some (y, h1, c, s)) : Con w mX0_purse cX0_purse 5 c s [.ref x, .int a1, .int a2] h (Ro (oI y) h1) := by
  unfold o_X0_purse at H
  refine Con.of (ls := [some (va_rf (some x)), some (.int a1), some (.int a2)]) (by decide +kernel) rfl rfl ?_
  refine V_iload1 eX0_purse_0 ?_
  refine V_ifne eX0_purse_1 (fun q => ?_) (fun q => ?_)
  · have H := zif_f q H
    refine V_iload1 eX0_purse_23 ?_
    refine V_iconst (v := 1) (by decide) eX0_purse_24 ?_
    refine V_if_icmpne eX0_purse_25 (fun q => ?_) (fun q => ?_)
    · have H := zif_f q H
      exact V_fg2 (b_X0_purse_48 H) (zfg_n (zfg_n (zfg_n zfg_e)))
    · have H := zif_t q H
      refine V_aload0 eX0_purse_28 (zrf_rf _) ?_
      refine V_iload2 eX0_purse_29 ?_
      refine D_callR (pc' := 33) (st := []) H (fun v h' c1 s1 e cb sb k => ?_) (fun v1 h c s H => ?_)
      · obtain ⟨a, hr, ha, hk, e9⟩ := zv1_ok e
        cases hr
        exact V_invokevirtual (k := 0) eX0_purse_30 lmX0_schemeAt q802 q804 rfl rfl qs21 ha hk (c_X0_schemeAt e9) (hRet_oR _ _) rfl rfl rfl rfl (kOR k)
      refine V_ifnull eX0_purse_33 (fun q => ?_) (fun a q => ?_)
      · have H := zif_t q H
        exact V_fg2 (b_X0_purse_48 H) (zfg_n (zfg_n (zfg_n zfg_e)))
      · have H := zif_f (zsn q) H
        refine V_aload0 eX0_purse_36 (zrf_rf _) ?_
        refine V_iload2 eX0_purse_37 ?_
        refine D_callR (pc' := 41) (st := []) H (fun v h' c1 s1 e cb sb k => ?_) (fun v2 h c s H => ?_)
        · obtain ⟨a, hr, ha, hk, e9⟩ := zv1_ok e
          cases hr
          exact V_invokevirtual (k := 0) eX0_purse_38 lmX0_schemeAt q802 q804 rfl rfl qs21 ha hk (c_X0_schemeAt e9) (hRet_oR _ _) rfl rfl rfl rfl (kOR k)
        refine D_gL eX0_purse_41 fq_X0_415_tL H (fun v3 H => ?_)
        refine V_l2i eX0_purse_44 ?_
        refine V_goto eX0_purse_45 ?_
        exact V_fg2 (b_X0_purse_49 H) (zfg_n (zfg_n (zfg_n zfg_e)))
  · have H := zif_t q H
    refine V_iload2 eX0_purse_4 ?_
    refine D_callI (pc' := 8) (st := []) H (fun v h' c1 s1 e cb sb k => ?_) (fun v4 h c s H => ?_)
    · exact V_invokestatic eX0_purse_5 lmX0_isHolder q276 q277 (c_X0_isHolder e) (hRet_oI _ _) rfl rfl rfl rfl (kOI k)
    refine V_ifeq eX0_purse_8 (fun q => ?_) (fun q => ?_)
    · have H := zif_t q H
      refine V_iconst (v := -1) (by decide) eX0_purse_21 ?_
      exact V_fg2 (b_X0_purse_22 H) (zfg_n (zfg_n (zfg_n zfg_e)))
    · have H := zif_f q H
      refine V_aload0 eX0_purse_11 (zrf_rf _) ?_
      refine D_gR eX0_purse_12 fq_X0_60_tR H (fun v5 H => ?_)
      refine V_iload2 eX0_purse_15 ?_
      refine D_laload eX0_purse_16 H (fun v6 H => ?_)
      refine V_l2i eX0_purse_17 ?_
      refine V_goto eX0_purse_18 ?_
      exact V_fg2 (b_X0_purse_22 H) (zfg_n (zfg_n (zfg_n zfg_e)))
def f_X20_scheme : Nat → Option Nat := fun k => match k with
  | 20 => some 0
  | _ => none
theorem fq_X20_7_tR : FQ RX20 7 f_X20_scheme tR := by
  intro k j e
  unfold f_X20_scheme at e
  split at e
  · cases e; exact ⟨fl_X20_7_20, Or.inl ⟨_, rfl⟩⟩
  · cases e
theorem fn_X20_init_7 : FN mX20_init 7 f_X20_scheme := by
  intro k j e
  unfold f_X20_scheme at e
  split at e
  · cases e; exact Or.inr ⟨rfl, rfl, rfl, _, q1340, rfl⟩
  · cases e
def f_X20_holder : Nat → Option Nat := fun k => match k with
  | 20 => some 1
  | _ => none
theorem fq_X20_13_tN : FQ RX20 13 f_X20_holder tN := by
  intro k j e
  unfold f_X20_holder at e
  split at e
  · cases e; exact ⟨fl_X20_13_20, rfl⟩
  · cases e
theorem fn_X20_init_13 : FN mX20_init 13 f_X20_holder := by
  intro k j e
  unfold f_X20_holder at e
  split at e
  · cases e; exact Or.inr ⟨rfl, rfl, rfl, _, q1342, rfl⟩
  · cases e
def f_X20_left : Nat → Option Nat := fun k => match k with
  | 20 => some 4
  | _ => none
theorem fq_X20_17_tN : FQ RX20 17 f_X20_left tN := by
  intro k j e
  unfold f_X20_left at e
  split at e
  · cases e; exact ⟨fl_X20_17_20, rfl⟩
  · cases e
theorem fn_X20_init_17 : FN mX20_init 17 f_X20_left := by
  intro k j e
  unfold f_X20_left at e
  split at e
  · cases e; exact Or.inl rfl
  · cases e
def f_X20_price : Nat → Option Nat := fun k => match k with
  | 20 => some 2
  | _ => none
theorem fq_X20_20_tN : FQ RX20 20 f_X20_price tN := by
  intro k j e
  unfold f_X20_price at e
  split at e
  · cases e; exact ⟨fl_X20_20_20, rfl⟩
  · cases e
theorem fn_X20_init_20 : FN mX20_init 20 f_X20_price := by
  intro k j e
  unfold f_X20_price at e
  split at e
  · cases e; exact Or.inr ⟨rfl, rfl, rfl, _, q1344, rfl⟩
  · cases e
def f_X20_ask : Nat → Option Nat := fun k => match k with
  | 20 => some 3
  | _ => none
theorem fq_X20_23_tZ : FQ RX20 23 f_X20_ask tZ := by
  intro k j e
  unfold f_X20_ask at e
  split at e
  · cases e; exact ⟨fl_X20_23_20, rfl⟩
  · cases e
theorem fn_X20_init_23 : FN mX20_init 23 f_X20_ask := by
  intro k j e
  unfold f_X20_ask at e
  split at e
  · cases e; exact Or.inr ⟨rfl, rfl, rfl, _, q1346, rfl⟩
  · cases e
def o_X20_init (w : Wd) (F : Nat) (x : Nat) (a1 : Option Nat) (a2 : Int32) (a3 : Int32) (a4 : Int32) (a5 : Int32) : M Unit :=
  zbd (zpR f_X20_scheme (some x) a1) fun _ =>
  zbd (zpI f_X20_holder (some x) a2) fun _ =>
  zbd (zpI f_X20_left (some x) a3) fun _ =>
  zbd (zpI f_X20_price (some x) a4) fun _ =>
  zbd (zpZ f_X20_ask (some x) a5) fun _ =>
  zrt ()
theorem c_X20_init {w : Wd} {F : Nat} {x : Nat} {a1 : Option Nat} {a2 : Int32} {a3 : Int32} {a4 : Int32} {a5 : Int32} {h h1 : Hp} {y : Unit} {c s : Nat} (H : o_X20_init w F x a1 a2 a3 a4 a5 h = some (y, h1, c, s)) : Con w mX20_init cX20_init 1 c s [.ref x, va_rf a1, .int a2, .int a3, .int a4, .int a5] h (Ro (oU y) h1) := by
  unfold o_X20_init at H
  refine Con.of (ls := [some (va_rf (some x)), some (va_rf a1), some (.int a2), some (.int a3), some (.int a4), some (.int a5)]) (by decide +kernel) (by simp only [zsl_r, zsl_i, zsl_l, zsl_n, zsl_a]; rfl) (by simp only [zar_r, zar_i, zar_l, zar_n, zar_a]; rfl) ?_
  refine V_aload0 eX20_init_0 (zrf_rf _) ?_
  refine V_objectinit eX20_init_1 q1339 q180 q181 rfl rfl ?_
  refine V_aload0 eX20_init_4 (zrf_rf _) ?_
  refine V_aload1 eX20_init_5 (zrf_rf _) ?_
  refine D_pR eX20_init_6 fq_X20_7_tR fn_X20_init_7 H (fun h H => ?_)
  refine V_aload0 eX20_init_9 (zrf_rf _) ?_
  refine V_iload2 eX20_init_10 ?_
  refine D_pI eX20_init_11 fq_X20_13_tN fn_X20_init_13 H (fun h H => ?_)
  refine V_aload0 eX20_init_14 (zrf_rf _) ?_
  refine V_iload3 eX20_init_15 ?_
  refine D_pI eX20_init_16 fq_X20_17_tN fn_X20_init_17 H (fun h H => ?_)
  refine V_aload0 eX20_init_19 (zrf_rf _) ?_
  refine V_iload4 eX20_init_20 ?_
  refine D_pI eX20_init_22 fq_X20_20_tN fn_X20_init_20 H (fun h H => ?_)
  refine V_aload0 eX20_init_25 (zrf_rf _) ?_
  refine V_iload5 eX20_init_26 ?_
  refine D_pZ eX20_init_28 fq_X20_23_tZ fn_X20_init_23 H (fun h H => ?_)
  obtain ⟨rfl, rfl, rfl, rfl⟩ := zrt_ok H
  exact V_return (x := ()) eX20_init_31 rfl ⟨rfl, rfl⟩
def d_X0_ask_19 (w : Wd) (F : Nat) : M Int32 :=
  zrt (-1 : Int32)
def d_X0_ask_43 (w : Wd) (F : Nat) : M Int32 :=
  zrt (-2 : Int32)
def o_X0_ask (w : Wd) (F : Nat) (x : Nat) (a1 : Int32) (a2 : Int32) (a3 : Int32) (a4 : Int32) (a5 : Int32) : M Int32 :=
  zbd (zv1 0 (some x) (fun a => o_X0_schemeAt w F a a1)) fun v1 =>
  zif (v1 = none) (d_X0_ask_19 w F)
  (zbd (o_X0_isHolder w F a2) fun v2 =>
  zif (v2 = 0) (d_X0_ask_19 w F)
  (zbd (o_X0_in w F a3 (1 : Int32) (99 : Int32)) fun v3 =>
  zif (v3 = 0) (d_X0_ask_43 w F)
  (zbd (o_X0_in w F a4 (1 : Int32) (999 : Int32)) fun v4 =>
  zif (v4 = 0) (d_X0_ask_43 w F)
  (zbd (zgR f_X0_standing (some x)) fun v5 =>
  zbd (zv1 30 v5 (fun a => o_J2_size w F a)) fun v6 =>
  zif (v6 = (40 : Int32)) (zrt (-4 : Int32))
  (zbd (zgR f_X0_standing (some x)) fun v7 =>
  zbd (znw 20 0 5) fun n8 =>
  zbd (znn n8 (fun a => o_X20_init w F a v1 a2 a3 a4 a5)) fun _ =>
  zbd (zv1 30 v7 (fun a => o_J2_add w F a n8)) fun v10 =>
  zbd (zgR f_X0_standing (some x)) fun v11 =>
  zbd (zv1 30 v11 (fun a => o_J2_size w F a)) fun v12 =>
  zrt v12)))))
theorem b_X0_ask_19 {w : Wd} {F : Nat} {h h1 : Hp} {y : Int32} {c s : Nat} (H : d_X0_ask_19 w F h = some (y, h1, c, s)) : V w mX0_ask cX0_ask 7 c s h 19 [none, none, none, none, none, none, none] [] (Ro (oI y) h1) := by
  unfold d_X0_ask_19 at H
  refine V_iconst (v := -1) (by decide) eX0_ask_19 ?_
  obtain ⟨rfl, rfl, rfl, rfl⟩ := zrt_ok H
  exact V_ireturn eX0_ask_20 rfl ⟨rfl, rfl⟩
theorem b_X0_ask_43 {w : Wd} {F : Nat} {h h1 : Hp} {y : Int32} {c s : Nat} (H : d_X0_ask_43 w F h = some (y, h1, c, s)) : V w mX0_ask cX0_ask 7 c s h 43 [none, none, none, none, none, none, none] [] (Ro (oI y) h1) := by
  unfold d_X0_ask_43 at H
  refine V_bipush (v := -2) (by decide) eX0_ask_43 ?_
  obtain ⟨rfl, rfl, rfl, rfl⟩ := zrt_ok H
  exact V_ireturn eX0_ask_45 rfl ⟨rfl, rfl⟩
theorem c_X0_ask {w : Wd} {F : Nat} {x : Nat} {a1 : Int32} {a2 : Int32} {a3 : Int32} {a4 : Int32} {a5 : Int32} {h h1 : Hp} {y : Int32} {c s : Nat} (H : o_X0_ask w F x a1 a2 a3 a4 a5 h = some (y, h1, c, s)) : Con w mX0_ask cX0_ask 7 c s [.ref x, .int a1, .int a2, .int a3, .int a4, .int a5] h (Ro (oI y) h1) := by
  unfold o_X0_ask at H
  refine Con.of (ls := [some (va_rf (some x)), some (.int a1), some (.int a2), some (.int a3), some (.int a4), some (.int a5), none]) (by decide +kernel) rfl rfl ?_
  refine V_aload0 eX0_ask_0 (zrf_rf _) ?_
  refine V_iload1 eX0_ask_1 ?_
  refine D_callR (pc' := 5) (st := []) H (fun v h' c1 s1 e cb sb k => ?_) (fun v1 h c s H => ?_)
  · obtain ⟨a, hr, ha, hk, e9⟩ := zv1_ok e
    cases hr
    exact V_invokevirtual (k := 0) eX0_ask_2 lmX0_schemeAt q802 q804 rfl rfl qs21 ha hk (c_X0_schemeAt e9) (hRet_oR _ _) rfl rfl rfl rfl (kOR k)
  refine V_astore6 rfl eX0_ask_5 rfl (zrf_rf _) ?_
  refine V_aload6 eX0_ask_7 (zrf_rf _) ?_
  refine V_ifnull eX0_ask_9 (fun q => ?_) (fun a q => ?_)
  · have H := zif_t q H
    exact V_fg2 (b_X0_ask_19 H) (zfg_n (zfg_n (zfg_n (zfg_n (zfg_n (zfg_n (zfg_n zfg_e)))))))
  · have H := zif_f (zsn q) H
    refine V_iload2 eX0_ask_12 ?_
    refine D_callI (pc' := 16) (st := []) H (fun v h' c1 s1 e cb sb k => ?_) (fun v2 h c s H => ?_)
    · exact V_invokestatic eX0_ask_13 lmX0_isHolder q276 q277 (c_X0_isHolder e) (hRet_oI _ _) rfl rfl rfl rfl (kOI k)
    refine V_ifne eX0_ask_16 (fun q => ?_) (fun q => ?_)
    · have H := zif_f q H
      refine V_iload3 eX0_ask_21 ?_
      refine V_iconst (v := 1) (by decide) eX0_ask_22 ?_
      refine V_bipush (v := 99) (by decide) eX0_ask_23 ?_
      refine D_callI (pc' := 28) (st := []) H (fun v h' c1 s1 e cb sb k => ?_) (fun v3 h c s H => ?_)
      · exact V_invokestatic eX0_ask_25 lmX0_in q149 q150 (c_X0_in e) (hRet_oI _ _) rfl rfl rfl rfl (kOI k)
      refine V_ifeq eX0_ask_28 (fun q => ?_) (fun q => ?_)
      · have H := zif_t q H
        exact V_fg2 (b_X0_ask_43 H) (zfg_n (zfg_n (zfg_n (zfg_n (zfg_n (zfg_n (zfg_n zfg_e)))))))
      · have H := zif_f q H
        refine V_iload4 eX0_ask_31 ?_
        refine V_iconst (v := 1) (by decide) eX0_ask_33 ?_
        refine V_sipush (v := 999) (by decide) eX0_ask_34 ?_
        refine D_callI (pc' := 40) (st := []) H (fun v h' c1 s1 e cb sb k => ?_) (fun v4 h c s H => ?_)
        · exact V_invokestatic eX0_ask_37 lmX0_in q149 q150 (c_X0_in e) (hRet_oI _ _) rfl rfl rfl rfl (kOI k)
        refine V_ifne eX0_ask_40 (fun q => ?_) (fun q => ?_)
        · have H := zif_f q H
          refine V_aload0 eX0_ask_46 (zrf_rf _) ?_
          refine D_gR eX0_ask_47 fq_X0_169_tR H (fun v5 H => ?_)
          refine D_callI (pc' := 53) (st := []) H (fun v h' c1 s1 e cb sb k => ?_) (fun v6 h c s H => ?_)
          · obtain ⟨a, hr, ha, hk, e9⟩ := zv1_ok e
            cases hr
            exact V_invokevirtual (k := 30) eX0_ask_50 lmJ2_size q156 q157 rfl rfl q158 ha hk (c_J2_size e9) (hRet_oI _ _) rfl rfl rfl rfl (kOI k)
          refine V_bipush (v := 40) (by decide) eX0_ask_53 ?_
          refine V_if_icmpne eX0_ask_55 (fun q => ?_) (fun q => ?_)
          · have H := zif_f q H
            refine V_aload0 eX0_ask_61 (zrf_rf _) ?_
            refine D_gR eX0_ask_62 fq_X0_169_tR H (fun v7 H => ?_)
            refine D_new (g := 0) eX0_ask_65 nl_X0_417 rfl H (fun n8 h c s H => ?_)
            refine V_dup (zcr _) eX0_ask_68 ?_
            refine V_aload6 eX0_ask_69 (zrf_rf _) ?_
            refine V_iload2 eX0_ask_71 ?_
            refine V_iload3 eX0_ask_72 ?_
            refine V_iload4 eX0_ask_73 ?_
            refine V_iload5 eX0_ask_75 ?_
            refine D_callU (pc' := 80) (st := [va_rf n8, va_rf v7]) H (fun v h' c1 s1 e cb sb k => ?_) (fun v9 h c s H => ?_)
            · obtain ⟨a, hr, e9⟩ := znn_ok e
              cases hr
              exact V_invokeinit eX0_ask_77 lmX20_init rfl rfl q1336 q1337 (c_X20_init e9) (hRet_oU _ _) rfl rfl rfl (by simp only [List.map_cons, List.map_nil, zcr]; rfl) (kOU k)
            refine D_callI (pc' := 83) (st := []) H (fun v h' c1 s1 e cb sb k => ?_) (fun v10 h c s H => ?_)
            · obtain ⟨a, hr, ha, hk, e9⟩ := zv1_ok e
              cases hr
              exact V_invokevirtual (k := 30) eX0_ask_80 lmJ2_add q196 q197 rfl rfl q198 ha hk (c_J2_add e9) (hRet_oI _ _) rfl rfl rfl rfl (kOI k)
            refine V_pop rfl eX0_ask_83 ?_
            refine V_aload0 eX0_ask_84 (zrf_rf _) ?_
            refine D_gR eX0_ask_85 fq_X0_169_tR H (fun v11 H => ?_)
            refine D_callI (pc' := 91) (st := []) H (fun v h' c1 s1 e cb sb k => ?_) (fun v12 h c s H => ?_)
            · obtain ⟨a, hr, ha, hk, e9⟩ := zv1_ok e
              cases hr
              exact V_invokevirtual (k := 30) eX0_ask_88 lmJ2_size q156 q157 rfl rfl q158 ha hk (c_J2_size e9) (hRet_oI _ _) rfl rfl rfl rfl (kOI k)
            obtain ⟨rfl, rfl, rfl, rfl⟩ := zrt_ok H
            exact V_ireturn eX0_ask_91 rfl ⟨rfl, rfl⟩
          · have H := zif_t q H
            refine V_bipush (v := -4) (by decide) eX0_ask_58 ?_
            obtain ⟨rfl, rfl, rfl, rfl⟩ := zrt_ok H
            exact V_ireturn eX0_ask_60 rfl ⟨rfl, rfl⟩
        · have H := zif_t q H
          exact V_fg2 (b_X0_ask_43 H) (zfg_n (zfg_n (zfg_n (zfg_n (zfg_n (zfg_n (zfg_n zfg_e)))))))
    · have H := zif_t q H
      exact V_fg2 (b_X0_ask_19 H) (zfg_n (zfg_n (zfg_n (zfg_n (zfg_n (zfg_n (zfg_n zfg_e)))))))
theorem fq_X20_23_tI : FQ RX20 23 f_X20_ask tI := by
  intro k j e
  unfold f_X20_ask at e
  split at e
  · cases e; exact ⟨fl_X20_23_20, Or.inr (Or.inl rfl)⟩
  · cases e
theorem fq_X20_20_tI : FQ RX20 20 f_X20_price tI := by
  intro k j e
  unfold f_X20_price at e
  split at e
  · cases e; exact ⟨fl_X20_20_20, Or.inl rfl⟩
  · cases e
def d_X20_isBetter_42 (w : Wd) (F : Nat) (s0 : Int32) : M Int32 :=
  zbd (zgd (s0 = 0 ∨ s0 = 1)) fun _ => zrt s0
def o_X20_isBetter (w : Wd) (F : Nat) (x : Nat) (a1 : Option Nat) : M Int32 :=
  zbd (zgI f_X20_ask (some x)) fun v1 =>
  zif (v1 = 0) (zbd (zgI f_X20_price (some x)) fun v2 =>
  zbd (zgI f_X20_price a1) fun v3 =>
  zif (v3 ≤ v2) (d_X20_isBetter_42 w F (0 : Int32))
  (d_X20_isBetter_42 w F (1 : Int32)))
  (zbd (zgI f_X20_price (some x)) fun v4 =>
  zbd (zgI f_X20_price a1) fun v5 =>
  zif (v4 ≤ v5) (d_X20_isBetter_42 w F (0 : Int32))
  (d_X20_isBetter_42 w F (1 : Int32)))
theorem b_X20_isBetter_42 {w : Wd} {F : Nat} {s0 : Int32} {h h1 : Hp} {y : Int32} {c s : Nat} (H : d_X20_isBetter_42 w F s0 h = some (y, h1, c, s)) : V w mX20_isBetter cX20_isBetter 0 c s h 42 [none, none] [.int s0] (Ro (oI y) h1) := by
  unfold d_X20_isBetter_42 at H
  obtain ⟨q, H⟩ := zgd_ok H
  obtain ⟨rfl, rfl, rfl, rfl⟩ := zrt_ok H
  exact V_zreturn eX20_isBetter_42 rfl q ⟨rfl, rfl⟩
theorem c_X20_isBetter {w : Wd} {F : Nat} {x : Nat} {a1 : Option Nat} {h h1 : Hp} {y : Int32} {c s : Nat} (H : o_X20_isBetter w F x a1 h = some (y, h1, c, s)) : Con w mX20_isBetter cX20_isBetter 0 c s [.ref x, va_rf a1] h (Ro (oI y) h1) := by
  unfold o_X20_isBetter at H
  refine Con.of (ls := [some (va_rf (some x)), some (va_rf a1)]) (by decide +kernel) (by simp only [zsl_r, zsl_i, zsl_l, zsl_n, zsl_a]; rfl) (by simp only [zar_r, zar_i, zar_l, zar_n, zar_a]; rfl) ?_
  refine V_aload0 eX20_isBetter_0 (zrf_rf _) ?_
  refine D_gI eX20_isBetter_1 fq_X20_23_tI H (fun v1 H => ?_)
  refine V_ifeq eX20_isBetter_4 (fun q => ?_) (fun q => ?_)
  · have H := zif_t q H
    refine V_aload0 eX20_isBetter_26 (zrf_rf _) ?_
    refine D_gI eX20_isBetter_27 fq_X20_20_tI H (fun v2 H => ?_)
    refine V_aload1 eX20_isBetter_30 (zrf_rf _) ?_
    refine D_gI eX20_isBetter_31 fq_X20_20_tI H (fun v3 H => ?_)
    refine V_if_icmpge eX20_isBetter_34 (fun q => ?_) (fun q => ?_)
    · have H := zif_t q H
      refine V_iconst (v := 0) (by decide) eX20_isBetter_41 ?_
      exact V_fg2 (b_X20_isBetter_42 H) (zfg_n (zfg_n zfg_e))
    · have H := zif_f q H
      refine V_iconst (v := 1) (by decide) eX20_isBetter_37 ?_
      refine V_goto eX20_isBetter_38 ?_
      exact V_fg2 (b_X20_isBetter_42 H) (zfg_n (zfg_n zfg_e))
  · have H := zif_f q H
    refine V_aload0 eX20_isBetter_7 (zrf_rf _) ?_
    refine D_gI eX20_isBetter_8 fq_X20_20_tI H (fun v4 H => ?_)
    refine V_aload1 eX20_isBetter_11 (zrf_rf _) ?_
    refine D_gI eX20_isBetter_12 fq_X20_20_tI H (fun v5 H => ?_)
    refine V_if_icmple eX20_isBetter_15 (fun q => ?_) (fun q => ?_)
    · have H := zif_t q H
      refine V_iconst (v := 0) (by decide) eX20_isBetter_22 ?_
      refine V_goto eX20_isBetter_23 ?_
      exact V_fg2 (b_X20_isBetter_42 H) (zfg_n (zfg_n zfg_e))
    · have H := zif_f q H
      refine V_iconst (v := 1) (by decide) eX20_isBetter_18 ?_
      refine V_goto eX20_isBetter_19 ?_
      exact V_fg2 (b_X20_isBetter_42 H) (zfg_n (zfg_n zfg_e))
def y_X20 : Nat → Bool := fun k => match k with
  | 20 => true
  | _ => false
theorem y_X20_ok : ∀ k, y_X20 k = true → zok k = true ∧ ((zcl k).1 = "LinesPromised$Word" ∨ Cond.castable (zcl k).1 "LinesPromised$Word" ∈ lw_tbl) := by
  intro k e
  unfold y_X20 at e
  split at e
  · exact ⟨by decide, Or.inl rfl⟩
  · cases e
theorem fq_X0_422_tR : FQ RX0 422 f_X20_scheme tR := by
  intro k j e
  unfold f_X20_scheme at e
  split at e
  · cases e; exact ⟨fl_X0_422_20, Or.inl ⟨_, rfl⟩⟩
  · cases e
theorem fq_X0_426_tI : FQ RX0 426 f_X20_ask tI := by
  intro k j e
  unfold f_X20_ask at e
  split at e
  · cases e; exact ⟨fl_X0_426_20, Or.inr (Or.inl rfl)⟩
  · cases e
def d_X0_best_65 (w : Wd) (F : Nat) (k5 : Option Nat → Int32 → M (Option Nat)) (x : Nat) (a1 : Option Nat) (a2 : Int32) (a3 : Option Nat) (a4 : Int32) : M (Option Nat) :=
  k5 a3 (a4 + (1 : Int32))
def d_X0_best_62 (w : Wd) (F : Nat) (k5 : Option Nat → Int32 → M (Option Nat)) (x : Nat) (a1 : Option Nat) (a2 : Int32) (a4 : Int32) (a5 : Option Nat) : M (Option Nat) :=
  d_X0_best_65 w F k5 x a1 a2 a5 a4
def B_X0_best_5 (w : Wd) (F : Nat) (k5 : Option Nat → Int32 → M (Option Nat)) (x : Nat) (a1 : Option Nat) (a2 : Int32) (a3 : Option Nat) (a4 : Int32) : M (Option Nat) :=
  zbd (zgR f_X0_standing (some x)) fun v1 =>
  zbd (zv1 30 v1 (fun a => o_J2_size w F a)) fun v2 =>
  zif (v2 ≤ a4) (zrt a3)
  (zbd (zgR f_X0_standing (some x)) fun v3 =>
  zbd (zv1 30 v3 (fun a => o_J2_get w F a a4)) fun v4 =>
  zbd (zcc y_X20 v4) fun _ =>
  zbd (zgR f_X20_scheme v4) fun v5 =>
  zif (v5 = a1) (zbd (zgI f_X20_ask v4) fun v6 =>
  zif (v6 = a2) (zif (a3 = none) (d_X0_best_62 w F k5 x a1 a2 a4 v4)
  (zbd (zv1 20 v4 (fun a => o_X20_isBetter w F a a3)) fun v7 =>
  zif (v7 = 0) (d_X0_best_65 w F k5 x a1 a2 a3 a4)
  (d_X0_best_62 w F k5 x a1 a2 a4 v4)))
  (d_X0_best_65 w F k5 x a1 a2 a3 a4))
  (d_X0_best_65 w F k5 x a1 a2 a3 a4))
def d_X0_best_5 (w : Wd) (F : Nat) (x : Nat) (a1 : Option Nat) (a2 : Int32) : Nat → Option Nat → Int32 → M (Option Nat)
  | 0, _, _ => zno
  | n + 1, a3, a4 => B_X0_best_5 w F (d_X0_best_5 w F x a1 a2 n) x a1 a2 a3 a4
def o_X0_best (w : Wd) (F : Nat) (x : Nat) (a1 : Option Nat) (a2 : Int32) : M (Option Nat) :=
  d_X0_best_5 w F x a1 a2 F none (0 : Int32)
theorem b_X0_best_65 {w : Wd} {F : Nat} {k5 : Option Nat → Int32 → M (Option Nat)} {x : Nat} {a1 : Option Nat} {a2 : Int32} (hk5 : ∀ (a3 : Option Nat) (a4 : Int32) (h : Hp) (y : Option Nat) (h1 : Hp) (c s : Nat), k5 a3 a4 h = some (y, h1, c, s) → V w mX0_best cX0_best 3 c s h 5 [some (va_rf (some x)), some (va_rf a1), some (.int a2), some (va_rf a3), some (.int a4), none] [] (Ro (oR y) h1)) {a3 : Option Nat} {a4 : Int32} {h h1 : Hp} {y : Option Nat} {c s : Nat} (H : d_X0_best_65 w F k5 x a1 a2 a3 a4 h = some (y, h1, c, s)) : V w mX0_best cX0_best 3 c s h 65 [some (va_rf (some x)), some (va_rf a1), some (.int a2), some (va_rf a3), some (.int a4), none] [] (Ro (oR y) h1) := by
  unfold d_X0_best_65 at H
  refine V_iinc4 (znl_rf _) eX0_best_65 rfl (v := 1) (by decide) ?_
  refine V_goto eX0_best_68 ?_
  exact V_fg2 (hk5 _ _ _ _ _ _ _ H) (zfg_k (zfg_k (zfg_k (zfg_k (zfg_k (zfg_n zfg_e))))))
theorem b_X0_best_62 {w : Wd} {F : Nat} {k5 : Option Nat → Int32 → M (Option Nat)} {x : Nat} {a1 : Option Nat} {a2 : Int32} (hk5 : ∀ (a3 : Option Nat) (a4 : Int32) (h : Hp) (y : Option Nat) (h1 : Hp) (c s : Nat), k5 a3 a4 h = some (y, h1, c, s) → V w mX0_best cX0_best 3 c s h 5 [some (va_rf (some x)), some (va_rf a1), some (.int a2), some (va_rf a3), some (.int a4), none] [] (Ro (oR y) h1)) {a4 : Int32} {a5 : Option Nat} {h h1 : Hp} {y : Option Nat} {c s : Nat} (H : d_X0_best_62 w F k5 x a1 a2 a4 a5 h = some (y, h1, c, s)) : V w mX0_best cX0_best 3 c s h 62 [some (va_rf (some x)), some (va_rf a1), some (.int a2), none, some (.int a4), some (va_rf a5)] [] (Ro (oR y) h1) := by
  unfold d_X0_best_62 at H
  refine V_aload5 eX0_best_62 (zrf_rf _) ?_
  refine V_astore3 rfl eX0_best_64 rfl (zrf_rf _) ?_
  exact V_fg2 (b_X0_best_65 hk5 H) (zfg_k (zfg_k (zfg_k (zfg_k (zfg_k (zfg_n zfg_e))))))
theorem bB_X0_best_5 {w : Wd} {F : Nat} {k5 : Option Nat → Int32 → M (Option Nat)} {x : Nat} {a1 : Option Nat} {a2 : Int32} (hk5 : ∀ (a3 : Option Nat) (a4 : Int32) (h : Hp) (y : Option Nat) (h1 : Hp) (c s : Nat), k5 a3 a4 h = some (y, h1, c, s) → V w mX0_best cX0_best 3 c s h 5 [some (va_rf (some x)), some (va_rf a1), some (.int a2), some (va_rf a3), some (.int a4), none] [] (Ro (oR y) h1)) {a3 : Option Nat} {a4 : Int32} {h h1 : Hp} {y : Option Nat} {c s : Nat} (H : B_X0_best_5 w F k5 x a1 a2 a3 a4 h = some (y, h1, c, s)) : V w mX0_best cX0_best 3 c s h 5 [some (va_rf (some x)), some (va_rf a1), some (.int a2), some (va_rf a3), some (.int a4), none] [] (Ro (oR y) h1) := by
  unfold B_X0_best_5 at H
  refine V_iload4 eX0_best_5 ?_
  refine V_aload0 eX0_best_7 (zrf_rf _) ?_
  refine D_gR eX0_best_8 fq_X0_169_tR H (fun v1 H => ?_)
  refine D_callI (pc' := 14) (st := [.int a4]) H (fun v h' c1 s1 e cb sb k => ?_) (fun v2 h c s H => ?_)
  · obtain ⟨a, hr, ha, hk, e9⟩ := zv1_ok e
    cases hr
    exact V_invokevirtual (k := 30) eX0_best_11 lmJ2_size q156 q157 rfl rfl q158 ha hk (c_J2_size e9) (hRet_oI _ _) rfl rfl rfl rfl (kOI k)
  refine V_if_icmpge eX0_best_14 (fun q => ?_) (fun q => ?_)
  · have H := zif_t q H
    refine V_aload3 eX0_best_71 (zrf_rf _) ?_
    obtain ⟨rfl, rfl, rfl, rfl⟩ := zrt_ok H
    exact V_areturn eX0_best_72 rfl (Or.inl ⟨_, rfl⟩) ⟨rfl, rfl⟩
  · have H := zif_f q H
    refine V_aload0 eX0_best_17 (zrf_rf _) ?_
    refine D_gR eX0_best_18 fq_X0_169_tR H (fun v3 H => ?_)
    refine V_iload4 eX0_best_21 ?_
    refine D_callR (pc' := 26) (st := []) H (fun v h' c1 s1 e cb sb k => ?_) (fun v4 h c s H => ?_)
    · obtain ⟨a, hr, ha, hk, e9⟩ := zv1_ok e
      cases hr
      exact V_invokevirtual (k := 30) eX0_best_23 lmJ2_get q160 q161 rfl rfl q162 ha hk (c_J2_get e9) (hRet_oR _ _) rfl rfl rfl rfl (kOR k)
    refine D_cast eX0_best_26 q1334 y_X20_ok H (fun H => ?_)
    refine V_astore5 rfl eX0_best_29 rfl (zrf_rf _) ?_
    refine V_aload5 eX0_best_31 (zrf_rf _) ?_
    refine D_gR eX0_best_33 fq_X0_422_tR H (fun v5 H => ?_)
    refine V_aload1 eX0_best_36 (zrf_rf _) ?_
    refine V_if_acmpne eX0_best_37 (fun q => ?_) (fun q => ?_)
    · have H := zif_f q H
      exact V_fg2 (b_X0_best_65 hk5 H) (zfg_k (zfg_k (zfg_k (zfg_k (zfg_k (zfg_n zfg_e))))))
    · have H := zif_t q H
      refine V_aload5 eX0_best_40 (zrf_rf _) ?_
      refine D_gI eX0_best_42 fq_X0_426_tI H (fun v6 H => ?_)
      refine V_iload2 eX0_best_45 ?_
      refine V_if_icmpne eX0_best_46 (fun q => ?_) (fun q => ?_)
      · have H := zif_f q H
        exact V_fg2 (b_X0_best_65 hk5 H) (zfg_k (zfg_k (zfg_k (zfg_k (zfg_k (zfg_n zfg_e))))))
      · have H := zif_t q H
        refine V_aload3 eX0_best_49 (zrf_rf _) ?_
        refine V_ifnull eX0_best_50 (fun q => ?_) (fun a q => ?_)
        · have H := zif_t q H
          exact V_fg2 (b_X0_best_62 hk5 H) (zfg_k (zfg_k (zfg_k (zfg_n (zfg_k (zfg_k zfg_e))))))
        · have H := zif_f (zsn q) H
          refine V_aload5 eX0_best_53 (zrf_rf _) ?_
          refine V_aload3 eX0_best_55 (zrf_rf _) ?_
          refine D_callI (pc' := 59) (st := []) H (fun v h' c1 s1 e cb sb k => ?_) (fun v7 h c s H => ?_)
          · obtain ⟨a, hr, ha, hk, e9⟩ := zv1_ok e
            cases hr
            exact V_invokevirtual (k := 20) eX0_best_56 lmX20_isBetter q1370 q1371 rfl rfl q1372 ha hk (c_X20_isBetter e9) (hRet_oI _ _) rfl rfl rfl rfl (kOI k)
          refine V_ifeq eX0_best_59 (fun q => ?_) (fun q => ?_)
          · have H := zif_t q H
            exact V_fg2 (b_X0_best_65 hk5 H) (zfg_k (zfg_k (zfg_k (zfg_k (zfg_k (zfg_n zfg_e))))))
          · have H := zif_f q H
            exact V_fg2 (b_X0_best_62 hk5 H) (zfg_k (zfg_k (zfg_k (zfg_n (zfg_k (zfg_k zfg_e))))))
theorem b_X0_best_5 {w : Wd} {F : Nat} {x : Nat} {a1 : Option Nat} {a2 : Int32} : ∀ (n : Nat) (a3 : Option Nat) (a4 : Int32) (h : Hp) (y : Option Nat) (h1 : Hp) (c s : Nat), d_X0_best_5 w F x a1 a2 n a3 a4 h = some (y, h1, c, s) → V w mX0_best cX0_best 3 c s h 5 [some (va_rf (some x)), some (va_rf a1), some (.int a2), some (va_rf a3), some (.int a4), none] [] (Ro (oR y) h1) := by
  intro n
  induction n with
  | zero => intro a3 a4 h y h1 c s H; exact zno_no H
  | succ n ih => intro a3 a4 h y h1 c s H; exact bB_X0_best_5 ih H
theorem c_X0_best {w : Wd} {F : Nat} {x : Nat} {a1 : Option Nat} {a2 : Int32} {h h1 : Hp} {y : Option Nat} {c s : Nat} (H : o_X0_best w F x a1 a2 h = some (y, h1, c, s)) : Con w mX0_best cX0_best 3 c s [.ref x, va_rf a1, .int a2] h (Ro (oR y) h1) := by
  unfold o_X0_best at H
  refine Con.of (ls := [some (va_rf (some x)), some (va_rf a1), some (.int a2), none, none, none]) (by decide +kernel) (by simp only [zsl_r, zsl_i, zsl_l, zsl_n, zsl_a]; rfl) (by simp only [zar_r, zar_i, zar_l, zar_n, zar_a]; rfl) ?_
  refine D_null eX0_best_0 ?_
  refine V_astore3 rfl eX0_best_1 rfl (zrf_rf _) ?_
  refine V_iconst (v := 0) (by decide) eX0_best_2 ?_
  refine V_istore4 (znl_rf _) eX0_best_3 rfl ?_
  exact V_fg2 (b_X0_best_5 _ _ _ _ _ _ _ _ H) (zfg_k (zfg_k (zfg_k (zfg_k (zfg_k (zfg_n zfg_e))))))
theorem fq_X0_433_tI : FQ RX0 433 f_X20_left tI := by
  intro k j e
  unfold f_X20_left at e
  split at e
  · cases e; exact ⟨fl_X0_433_20, Or.inl rfl⟩
  · cases e
theorem fq_X0_434_tI : FQ RX0 434 f_X20_holder tI := by
  intro k j e
  unfold f_X20_holder at e
  split at e
  · cases e; exact ⟨fl_X0_434_20, Or.inl rfl⟩
  · cases e
theorem fq_X0_437_tI : FQ RX0 437 f_X20_price tI := by
  intro k j e
  unfold f_X20_price at e
  split at e
  · cases e; exact ⟨fl_X0_437_20, Or.inl rfl⟩
  · cases e
theorem fq_X0_446_tN : FQ RX0 446 f_X13_price tN := by
  intro k j e
  unfold f_X13_price at e
  split at e
  · cases e; exact ⟨fl_X0_446_13, rfl⟩
  · cases e; exact ⟨fl_X0_446_15, rfl⟩
  · cases e; exact ⟨fl_X0_446_18, rfl⟩
  · cases e
theorem fn_X0_goes_446 : FN mX0_goes 446 f_X13_price := by
  intro k j e
  unfold f_X13_price at e
  split at e
  · cases e; exact Or.inl rfl
  · cases e; exact Or.inl rfl
  · cases e; exact Or.inl rfl
  · cases e
theorem fq_X0_433_tN : FQ RX0 433 f_X20_left tN := by
  intro k j e
  unfold f_X20_left at e
  split at e
  · cases e; exact ⟨fl_X0_433_20, rfl⟩
  · cases e
theorem fn_X0_goes_433 : FN mX0_goes 433 f_X20_left := by
  intro k j e
  unfold f_X20_left at e
  split at e
  · cases e; exact Or.inl rfl
  · cases e
def d_X0_goes_219 (w : Wd) (F : Nat) (a4 : Int32) : M Int32 :=
  zrt a4
def d_X0_goes_203 (w : Wd) (F : Nat) (x : Nat) (a2 : Option Nat) (a4 : Int32) : M Int32 :=
  zbd (zgI f_X20_left a2) fun v34 =>
  zif (v34 = 0) (zbd (zgR f_X0_standing (some x)) fun v35 =>
  zbd (zv1 30 v35 (fun a => o_J2_remove w F a a2)) fun v36 =>
  d_X0_goes_219 w F a4)
  (d_X0_goes_219 w F a4)
def d_X0_goes_81 (w : Wd) (F : Nat) (s0 : Option Nat) (s1 : Option Nat) : M Int32 :=
  zbd (zv1 30 s0 (fun a => o_J2_remove w F a s1)) fun v40 =>
  zrt (0 : Int32)
def o_X0_goes (w : Wd) (F : Nat) (x : Nat) (a1 : Option Nat) (a2 : Option Nat) : M Int32 :=
  zbd (zgR f_X20_scheme a1) fun v1 =>
  zbd (zgI f_X20_left a1) fun v2 =>
  zbd (zgI f_X20_left a2) fun v3 =>
  zbd (o_J6_min w F v2 v3) fun v4 =>
  zbd (zgR f_X13_held v1) fun v5 =>
  zbd (zgI f_X20_holder a1) fun v6 =>
  zbd (zaI 0 v5 v6) fun v7 =>
  zbd (zgR f_X0_coins (some x)) fun v8 =>
  zbd (zgI f_X20_holder a2) fun v9 =>
  zbd (zaL v8 v9) fun v10 =>
  zbd (zgI f_X20_price a1) fun v11 =>
  zbd (zgd (¬ (v11).toInt64 = 0)) fun _ =>
  zbd (o_J6_min_2 w F (99 : Int64) (v10 / (v11).toInt64)) fun v13 =>
  zbd (o_J6_min w F v7 (v13).toInt32) fun v14 =>
  zbd (o_J6_min w F v4 v14) fun v15 =>
  zif (v15 = 0) (zbd (zgR f_X0_standing (some x)) fun v36 =>
  zbd (zgR f_X13_held v1) fun v37 =>
  zbd (zgI f_X20_holder a1) fun v38 =>
  zbd (zaI 0 v37 v38) fun v39 =>
  zif (v39 = 0) (d_X0_goes_81 w F v36 a1)
  (d_X0_goes_81 w F v36 a2))
  (zbd (zgR f_X13_held v1) fun v16 =>
  zbd (zgI f_X20_holder a1) fun v17 =>
  zbd (zaI 0 v16 v17) fun v18 =>
  zbd (zsI 0 v16 v17 (v18 - v15)) fun _ =>
  zbd (zgR f_X13_held v1) fun v19 =>
  zbd (zgI f_X20_holder a2) fun v20 =>
  zbd (zaI 0 v19 v20) fun v21 =>
  zbd (zsI 0 v19 v20 (v21 + v15)) fun _ =>
  zbd (zgR f_X0_coins (some x)) fun v22 =>
  zbd (zgI f_X20_holder a1) fun v23 =>
  zbd (zaL v22 v23) fun v24 =>
  zbd (zgI f_X20_price a1) fun v25 =>
  zbd (zsL v22 v23 (v24 + ((v15).toInt64 * (v25).toInt64))) fun _ =>
  zbd (zgR f_X0_coins (some x)) fun v26 =>
  zbd (zgI f_X20_holder a2) fun v27 =>
  zbd (zaL v26 v27) fun v28 =>
  zbd (zgI f_X20_price a1) fun v29 =>
  zbd (zsL v26 v27 (v28 - ((v15).toInt64 * (v29).toInt64))) fun _ =>
  zbd (zgI f_X20_price a1) fun v30 =>
  zbd (zpI f_X13_price v1 v30) fun _ =>
  zbd (zgI f_X20_left a1) fun v31 =>
  zbd (zpI f_X20_left a1 (v31 - v15)) fun _ =>
  zbd (zgI f_X20_left a2) fun v32 =>
  zbd (zpI f_X20_left a2 (v32 - v15)) fun _ =>
  zbd (zgI f_X20_left a1) fun v33 =>
  zif (v33 = 0) (zbd (zgR f_X0_standing (some x)) fun v34 =>
  zbd (zv1 30 v34 (fun a => o_J2_remove w F a a1)) fun v35 =>
  d_X0_goes_203 w F x a2 v15)
  (d_X0_goes_203 w F x a2 v15))
theorem b_X0_goes_219 {w : Wd} {F : Nat} {a4 : Int32} {h h1 : Hp} {y : Int32} {c s : Nat} (H : d_X0_goes_219 w F a4 h = some (y, h1, c, s)) : V w mX0_goes cX0_goes 3 c s h 219 [none, none, none, none, some (.int a4)] [] (Ro (oI y) h1) := by
  unfold d_X0_goes_219 at H
  refine V_iload4 eX0_goes_219 ?_
  obtain ⟨rfl, rfl, rfl, rfl⟩ := zrt_ok H
  exact V_ireturn eX0_goes_221 rfl ⟨rfl, rfl⟩
theorem b_X0_goes_203 {w : Wd} {F : Nat} {x : Nat} {a2 : Option Nat} {a4 : Int32} {h h1 : Hp} {y : Int32} {c s : Nat} (H : d_X0_goes_203 w F x a2 a4 h = some (y, h1, c, s)) : V w mX0_goes cX0_goes 3 c s h 203 [some (va_rf (some x)), none, some (va_rf a2), none, some (.int a4)] [] (Ro (oI y) h1) := by
  unfold d_X0_goes_203 at H
  refine V_aload2 eX0_goes_203 (zrf_rf _) ?_
  refine D_gI eX0_goes_204 fq_X0_433_tI H (fun v34 H => ?_)
  refine V_ifne eX0_goes_207 (fun q => ?_) (fun q => ?_)
  · have H := zif_f q H
    exact V_fg2 (b_X0_goes_219 H) (zfg_n (zfg_n (zfg_n (zfg_n (zfg_k zfg_e)))))
  · have H := zif_t q H
    refine V_aload0 eX0_goes_210 (zrf_rf _) ?_
    refine D_gR eX0_goes_211 fq_X0_169_tR H (fun v35 H => ?_)
    refine V_aload2 eX0_goes_214 (zrf_rf _) ?_
    refine D_callI (pc' := 218) (st := []) H (fun v h' c1 s1 e cb sb k => ?_) (fun v36 h c s H => ?_)
    · obtain ⟨a, hr, ha, hk, e9⟩ := zv1_ok e
      cases hr
      exact V_invokevirtual (k := 30) eX0_goes_215 lmJ2_remove q1382 q1383 rfl rfl q1384 ha hk (c_J2_remove e9) (hRet_oI _ _) rfl rfl rfl rfl (kOI k)
    refine V_pop rfl eX0_goes_218 ?_
    exact V_fg2 (b_X0_goes_219 H) (zfg_n (zfg_n (zfg_n (zfg_n (zfg_k zfg_e)))))
theorem b_X0_goes_81 {w : Wd} {F : Nat} {s0 : Option Nat} {s1 : Option Nat} {h h1 : Hp} {y : Int32} {c s : Nat} (H : d_X0_goes_81 w F s0 s1 h = some (y, h1, c, s)) : V w mX0_goes cX0_goes 3 c s h 81 [none, none, none, none, none] [va_rf s1, va_rf s0] (Ro (oI y) h1) := by
  unfold d_X0_goes_81 at H
  refine D_callI (pc' := 84) (st := []) H (fun v h' c1 s1 e cb sb k => ?_) (fun v40 h c s H => ?_)
  · obtain ⟨a, hr, ha, hk, e9⟩ := zv1_ok e
    cases hr
    exact V_invokevirtual (k := 30) eX0_goes_81 lmJ2_remove q1382 q1383 rfl rfl q1384 ha hk (c_J2_remove e9) (hRet_oI _ _) rfl rfl rfl rfl (kOI k)
  refine V_pop rfl eX0_goes_84 ?_
  refine V_iconst (v := 0) (by decide) eX0_goes_85 ?_
  obtain ⟨rfl, rfl, rfl, rfl⟩ := zrt_ok H
  exact V_ireturn eX0_goes_86 rfl ⟨rfl, rfl⟩
theorem c_X0_goes {w : Wd} {F : Nat} {x : Nat} {a1 : Option Nat} {a2 : Option Nat} {h h1 : Hp} {y : Int32} {c s : Nat} (H : o_X0_goes w F x a1 a2 h = some (y, h1, c, s)) : Con w mX0_goes cX0_goes 3 c s [.ref x, va_rf a1, va_rf a2] h (Ro (oI y) h1) := by
  unfold o_X0_goes at H
  refine Con.of (ls := [some (va_rf (some x)), some (va_rf a1), some (va_rf a2), none, none]) (by decide +kernel) (by simp only [zsl_r, zsl_i, zsl_l, zsl_n, zsl_a]; rfl) (by simp only [zar_r, zar_i, zar_l, zar_n, zar_a]; rfl) ?_
  refine V_aload1 eX0_goes_0 (zrf_rf _) ?_
  refine D_gR eX0_goes_1 fq_X0_422_tR H (fun v1 H => ?_)
  refine V_astore3 (znl_rf _) eX0_goes_4 rfl (zrf_rf _) ?_
  refine V_aload1 eX0_goes_5 (zrf_rf _) ?_
  refine D_gI eX0_goes_6 fq_X0_433_tI H (fun v2 H => ?_)
  refine V_aload2 eX0_goes_9 (zrf_rf _) ?_
  refine D_gI eX0_goes_10 fq_X0_433_tI H (fun v3 H => ?_)
  refine D_callI (pc' := 16) (st := []) H (fun v h' c1 s1 e cb sb k => ?_) (fun v4 h c s H => ?_)
  · exact V_invokestatic eX0_goes_13 lmJ6_min q935 q265 (c_J6_min e) (hRet_oI _ _) rfl rfl rfl rfl (kOI k)
  refine V_aload3 eX0_goes_16 (zrf_rf _) ?_
  refine D_gR eX0_goes_17 fq_X0_412_tR H (fun v5 H => ?_)
  refine V_aload1 eX0_goes_20 (zrf_rf _) ?_
  refine D_gI eX0_goes_21 fq_X0_434_tI H (fun v6 H => ?_)
  refine D_iaload eX0_goes_24 H (fun v7 H => ?_)
  refine V_ldc2_w (v := 99) eX0_goes_25 q1378 ?_
  refine V_aload0 eX0_goes_28 (zrf_rf _) ?_
  refine D_gR eX0_goes_29 fq_X0_60_tR H (fun v8 H => ?_)
  refine V_aload2 eX0_goes_32 (zrf_rf _) ?_
  refine D_gI eX0_goes_33 fq_X0_434_tI H (fun v9 H => ?_)
  refine D_laload eX0_goes_36 H (fun v10 H => ?_)
  refine V_aload1 eX0_goes_37 (zrf_rf _) ?_
  refine D_gI eX0_goes_38 fq_X0_437_tI H (fun v11 H => ?_)
  refine V_i2l eX0_goes_41 ?_
  obtain ⟨q12, H⟩ := zgd_ok H
  refine V_ldiv q12 eX0_goes_42 ?_
  refine D_callL (pc' := 46) (st := [.int v7, .int v4]) H (fun v h' c1 s1 e cb sb k => ?_) (fun v13 h c s H => ?_)
  · exact V_invokestatic eX0_goes_43 lmJ6_min_2 q1379 q1380 (c_J6_min_2 e) (hRet_oL _ _) rfl rfl rfl rfl (kOL k)
  refine V_l2i eX0_goes_46 ?_
  refine D_callI (pc' := 50) (st := [.int v4]) H (fun v h' c1 s1 e cb sb k => ?_) (fun v14 h c s H => ?_)
  · exact V_invokestatic eX0_goes_47 lmJ6_min q935 q265 (c_J6_min e) (hRet_oI _ _) rfl rfl rfl rfl (kOI k)
  refine D_callI (pc' := 53) (st := []) H (fun v h' c1 s1 e cb sb k => ?_) (fun v15 h c s H => ?_)
  · exact V_invokestatic eX0_goes_50 lmJ6_min q935 q265 (c_J6_min e) (hRet_oI _ _) rfl rfl rfl rfl (kOI k)
  refine V_istore4 (znl_rf _) eX0_goes_53 rfl ?_
  refine V_iload4 eX0_goes_55 ?_
  refine V_ifne eX0_goes_57 (fun q => ?_) (fun q => ?_)
  · have H := zif_f q H
    refine V_aload3 eX0_goes_87 (zrf_rf _) ?_
    refine D_gR eX0_goes_88 fq_X0_412_tR H (fun v16 H => ?_)
    refine V_aload1 eX0_goes_91 (zrf_rf _) ?_
    refine D_gI eX0_goes_92 fq_X0_434_tI H (fun v17 H => ?_)
    refine V_dup2 rfl (zcr _) eX0_goes_95 ?_
    refine D_iaload eX0_goes_96 H (fun v18 H => ?_)
    refine V_iload4 eX0_goes_97 ?_
    refine V_isub eX0_goes_99 ?_
    refine D_iastore eX0_goes_100 H (fun h H => ?_)
    refine V_aload3 eX0_goes_101 (zrf_rf _) ?_
    refine D_gR eX0_goes_102 fq_X0_412_tR H (fun v19 H => ?_)
    refine V_aload2 eX0_goes_105 (zrf_rf _) ?_
    refine D_gI eX0_goes_106 fq_X0_434_tI H (fun v20 H => ?_)
    refine V_dup2 rfl (zcr _) eX0_goes_109 ?_
    refine D_iaload eX0_goes_110 H (fun v21 H => ?_)
    refine V_iload4 eX0_goes_111 ?_
    refine V_iadd eX0_goes_113 ?_
    refine D_iastore eX0_goes_114 H (fun h H => ?_)
    refine V_aload0 eX0_goes_115 (zrf_rf _) ?_
    refine D_gR eX0_goes_116 fq_X0_60_tR H (fun v22 H => ?_)
    refine V_aload1 eX0_goes_119 (zrf_rf _) ?_
    refine D_gI eX0_goes_120 fq_X0_434_tI H (fun v23 H => ?_)
    refine V_dup2 rfl (zcr _) eX0_goes_123 ?_
    refine D_laload eX0_goes_124 H (fun v24 H => ?_)
    refine V_iload4 eX0_goes_125 ?_
    refine V_i2l eX0_goes_127 ?_
    refine V_aload1 eX0_goes_128 (zrf_rf _) ?_
    refine D_gI eX0_goes_129 fq_X0_437_tI H (fun v25 H => ?_)
    refine V_i2l eX0_goes_132 ?_
    refine V_lmul eX0_goes_133 ?_
    refine V_ladd eX0_goes_134 ?_
    refine D_lastore eX0_goes_135 H (fun h H => ?_)
    refine V_aload0 eX0_goes_136 (zrf_rf _) ?_
    refine D_gR eX0_goes_137 fq_X0_60_tR H (fun v26 H => ?_)
    refine V_aload2 eX0_goes_140 (zrf_rf _) ?_
    refine D_gI eX0_goes_141 fq_X0_434_tI H (fun v27 H => ?_)
    refine V_dup2 rfl (zcr _) eX0_goes_144 ?_
    refine D_laload eX0_goes_145 H (fun v28 H => ?_)
    refine V_iload4 eX0_goes_146 ?_
    refine V_i2l eX0_goes_148 ?_
    refine V_aload1 eX0_goes_149 (zrf_rf _) ?_
    refine D_gI eX0_goes_150 fq_X0_437_tI H (fun v29 H => ?_)
    refine V_i2l eX0_goes_153 ?_
    refine V_lmul eX0_goes_154 ?_
    refine V_lsub eX0_goes_155 ?_
    refine D_lastore eX0_goes_156 H (fun h H => ?_)
    refine V_aload3 eX0_goes_157 (zrf_rf _) ?_
    refine V_aload1 eX0_goes_158 (zrf_rf _) ?_
    refine D_gI eX0_goes_159 fq_X0_437_tI H (fun v30 H => ?_)
    refine D_pI eX0_goes_162 fq_X0_446_tN fn_X0_goes_446 H (fun h H => ?_)
    refine V_aload1 eX0_goes_165 (zrf_rf _) ?_
    refine V_dup (zcr _) eX0_goes_166 ?_
    refine D_gI eX0_goes_167 fq_X0_433_tI H (fun v31 H => ?_)
    refine V_iload4 eX0_goes_170 ?_
    refine V_isub eX0_goes_172 ?_
    refine D_pI eX0_goes_173 fq_X0_433_tN fn_X0_goes_433 H (fun h H => ?_)
    refine V_aload2 eX0_goes_176 (zrf_rf _) ?_
    refine V_dup (zcr _) eX0_goes_177 ?_
    refine D_gI eX0_goes_178 fq_X0_433_tI H (fun v32 H => ?_)
    refine V_iload4 eX0_goes_181 ?_
    refine V_isub eX0_goes_183 ?_
    refine D_pI eX0_goes_184 fq_X0_433_tN fn_X0_goes_433 H (fun h H => ?_)
    refine V_aload1 eX0_goes_187 (zrf_rf _) ?_
    refine D_gI eX0_goes_188 fq_X0_433_tI H (fun v33 H => ?_)
    refine V_ifne eX0_goes_191 (fun q => ?_) (fun q => ?_)
    · have H := zif_f q H
      exact V_fg2 (b_X0_goes_203 H) (zfg_k (zfg_n (zfg_k (zfg_n (zfg_k zfg_e)))))
    · have H := zif_t q H
      refine V_aload0 eX0_goes_194 (zrf_rf _) ?_
      refine D_gR eX0_goes_195 fq_X0_169_tR H (fun v34 H => ?_)
      refine V_aload1 eX0_goes_198 (zrf_rf _) ?_
      refine D_callI (pc' := 202) (st := []) H (fun v h' c1 s1 e cb sb k => ?_) (fun v35 h c s H => ?_)
      · obtain ⟨a, hr, ha, hk, e9⟩ := zv1_ok e
        cases hr
        exact V_invokevirtual (k := 30) eX0_goes_199 lmJ2_remove q1382 q1383 rfl rfl q1384 ha hk (c_J2_remove e9) (hRet_oI _ _) rfl rfl rfl rfl (kOI k)
      refine V_pop rfl eX0_goes_202 ?_
      exact V_fg2 (b_X0_goes_203 H) (zfg_k (zfg_n (zfg_k (zfg_n (zfg_k zfg_e)))))
  · have H := zif_t q H
    refine V_aload0 eX0_goes_60 (zrf_rf _) ?_
    refine D_gR eX0_goes_61 fq_X0_169_tR H (fun v36 H => ?_)
    refine V_aload3 eX0_goes_64 (zrf_rf _) ?_
    refine D_gR eX0_goes_65 fq_X0_412_tR H (fun v37 H => ?_)
    refine V_aload1 eX0_goes_68 (zrf_rf _) ?_
    refine D_gI eX0_goes_69 fq_X0_434_tI H (fun v38 H => ?_)
    refine D_iaload eX0_goes_72 H (fun v39 H => ?_)
    refine V_ifne eX0_goes_73 (fun q => ?_) (fun q => ?_)
    · have H := zif_f q H
      refine V_aload2 eX0_goes_80 (zrf_rf _) ?_
      exact V_fg2 (b_X0_goes_81 H) (zfg_n (zfg_n (zfg_n (zfg_n (zfg_n zfg_e)))))
    · have H := zif_t q H
      refine V_aload1 eX0_goes_76 (zrf_rf _) ?_
      refine V_goto eX0_goes_77 ?_
      exact V_fg2 (b_X0_goes_81 H) (zfg_n (zfg_n (zfg_n (zfg_n (zfg_n zfg_e)))))
