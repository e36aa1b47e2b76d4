set_option maxRecDepth 100000
theorem fn_X0_tried_67 : FN mX0_tried 67 f_X0_taped := by
  intro k j e
  unfold f_X0_taped at e
  split at e
  · cases e; exact Or.inl rfl
  · cases e
def o_X0_tried (w : Wd) (F : Nat) (x : Nat) (a1 : Int32) : M Int32 :=
  zbd (o_X0_in w F a1 (0 : Int32) (2 : Int32)) fun v1 =>
  zif (v1 = 0) (zrt (-1 : Int32))
  (zbd (zgR f_X0_orders (some x)) fun v2 =>
  zbd (zgR f_X0_reader (some x)) fun v3 =>
  zbd (zgI f_X0_today (some x)) fun v4 =>
  zbd (zv1 1 v3 (fun a => o_X1_order w F a v4)) fun r => zsm r (fun v6 =>
  zbd (zv1 30 v2 (fun a => o_J2_add w F a v6)) fun v8 =>
  zbd (zv1 0 (some x) (fun a => o_X0_triedOf w F a a1)) fun v9 =>
  zbd (zgR f_X0_orders (some x)) fun v10 =>
  zbd (zgR f_X0_orders (some x)) fun v11 =>
  zbd (zv1 30 v11 (fun a => o_J2_size w F a)) fun v12 =>
  zbd (zv1 30 v10 (fun a => o_J2_remove_2 w F a (v12 - (1 : Int32)))) fun v13 =>
  zbd (zpI f_X0_taped (some x) (0 : Int32)) fun _ =>
  zrt v9)
  (fun t7 => zbd (zgx 5 t7) fun _ =>
  zbd (zgI f_X5_place (some t7)) fun v14 =>
  zbd (zpI f_X0_taped (some x) (0 : Int32)) fun _ =>
  zrt ((-10 : Int32) - v14)))
theorem c_X0_tried {w : Wd} {F : Nat} {x : Nat} {a1 : Int32} {h h1 : Hp} {y : Int32} {c s : Nat} (H : o_X0_tried w F x a1 h = some (y, h1, c, s)) : Con w mX0_tried cX0_tried 803 c s [.ref x, .int a1] h (Ro (oI y) h1) := by
  unfold o_X0_tried at H
  refine Con.of (ls := [some (va_rf (some x)), some (.int a1), none, none, none]) (by decide +kernel) rfl rfl ?_
  refine V_iload1 eX0_tried_0 ?_
  refine V_iconst (v := 0) (by decide) eX0_tried_1 ?_
  refine V_iconst (v := 2) (by decide) eX0_tried_2 ?_
  refine D_callI (pc' := 6) (st := []) H (fun v h' c1 s1 e cb sb k => ?_) (fun v1 h c s H => ?_)
  · exact V_invokestatic eX0_tried_3 lmX0_in q149 q150 (c_X0_in e) (hRet_oI _ _) rfl rfl rfl rfl (kOI k)
  refine V_ifne eX0_tried_6 (fun q => ?_) (fun q => ?_)
  · have H := zif_f q H
    refine V_aload0 eX0_tried_11 (zrf_rf _) ?_
    refine D_gR eX0_tried_12 fq_X0_77_tR H (fun v2 H => ?_)
    refine V_aload0 eX0_tried_15 (zrf_rf _) ?_
    refine D_gR eX0_tried_16 fq_X0_80_tR H (fun v3 H => ?_)
    refine V_aload0 eX0_tried_19 (zrf_rf _) ?_
    refine D_gI eX0_tried_20 fq_X0_194_tI H (fun v4 H => ?_)
    refine D_callXR (pc' := 26) (st := [va_rf v2]) H (fun v h' c1 s1 e cb sb k => ?_) (fun t h' c1 s1 e cb sb k => ?_) (fun v6 h c s H => ?_) (fun t7 h c s H => ?_)
    · obtain ⟨a, hr, ha, hk, e9⟩ := zv1_ok e
      cases hr
      exact V_invokevirtual (k := 1) eX0_tried_23 lmX1_order q296 q297 rfl rfl q298 ha hk (c_X1_order e9) (hRet_oR _ _) rfl rfl rfl (by simp only [List.map_cons, List.map_nil, zcr]; rfl) (kOR k)
    · obtain ⟨a, hr, ha, hk, e9⟩ := zv1_ok e
      cases hr
      exact V_invokevirtualX (k := 1) eX0_tried_23 lmX1_order q296 q297 rfl rfl q298 ha hk (c_X1_order e9) rfl rfl rfl (by simp only [List.map_cons, List.map_nil, zcr]; rfl) k
    · skip
      refine D_callI (pc' := 29) (st := []) H (fun v h' c1 s1 e cb sb k => ?_) (fun v8 h c s H => ?_)
      · obtain ⟨a, hr, ha, hk, e9⟩ := zv1_ok e
        cases hr
        exact V_invokevirtual (k := 30) eX0_tried_26 lmJ2_add q196 q197 rfl rfl q198 ha hk (c_J2_add e9) (hRet_oI _ _) rfl rfl rfl rfl (kOI k)
      refine V_pop rfl eX0_tried_29 ?_
      refine V_aload0 eX0_tried_30 (zrf_rf _) ?_
      refine V_iload1 eX0_tried_31 ?_
      refine D_callI (pc' := 35) (st := []) H (fun v h' c1 s1 e cb sb k => ?_) (fun v9 h c s H => ?_)
      · obtain ⟨a, hr, ha, hk, e9⟩ := zv1_ok e
        cases hr
        exact V_invokevirtual (k := 0) eX0_tried_32 lmX0_triedOf q1615 q1617 rfl rfl qs50 ha hk (c_X0_triedOf e9) (hRet_oI _ _) rfl rfl rfl rfl (kOI k)
      refine V_istore2 rfl eX0_tried_35 rfl ?_
      refine V_aload0 eX0_tried_36 (zrf_rf _) ?_
      refine D_gR eX0_tried_37 fq_X0_77_tR H (fun v10 H => ?_)
      refine V_aload0 eX0_tried_40 (zrf_rf _) ?_
      refine D_gR eX0_tried_41 fq_X0_77_tR H (fun v11 H => ?_)
      refine D_callI (pc' := 47) (st := [va_rf v10]) H (fun v h' c1 s1 e cb sb k => ?_) (fun v12 h c s H => ?_)
      · obtain ⟨a, hr, ha, hk, e9⟩ := zv1_ok e
        cases hr
        exact V_invokevirtual (k := 30) eX0_tried_44 lmJ2_size q156 q157 rfl rfl q158 ha hk (c_J2_size e9) (hRet_oI _ _) rfl rfl rfl (by simp only [List.map_cons, List.map_nil, zcr]; rfl) (kOI k)
      refine V_iconst (v := 1) (by decide) eX0_tried_47 ?_
      refine V_isub eX0_tried_48 ?_
      refine D_callR (pc' := 52) (st := []) H (fun v h' c1 s1 e cb sb k => ?_) (fun v13 h c s H => ?_)
      · obtain ⟨a, hr, ha, hk, e9⟩ := zv1_ok e
        cases hr
        exact V_invokevirtual (k := 30) eX0_tried_49 lmJ2_remove_2 q1430 q1431 rfl rfl q1432 ha hk (c_J2_remove_2 e9) (hRet_oR _ _) rfl rfl rfl rfl (kOR k)
      refine V_pop (zcr _) eX0_tried_52 ?_
      refine V_iload2 eX0_tried_53 ?_
      refine V_istore3 rfl eX0_tried_54 rfl ?_
      refine V_aload0 eX0_tried_55 (zrf_rf _) ?_
      refine V_iconst (v := 0) (by decide) eX0_tried_56 ?_
      refine D_pI eX0_tried_57 fq_X0_67_tN fn_X0_tried_67 H (fun h H => ?_)
      refine V_iload3 eX0_tried_60 ?_
      obtain ⟨rfl, rfl, rfl, rfl⟩ := zrt_ok H
      exact V_ireturn eX0_tried_61 rfl ⟨rfl, rfl⟩
    · obtain ⟨⟨qa, qk⟩, H⟩ := zgx_ok H
      refine VX_catch (k := 5) rfl rfl rfl rfl q292 (by decide) rfl qa qk ?_
      refine V_astore2 rfl eX0_tried_62 rfl (zrf_rf _) ?_
      refine V_bipush (v := -10) (by decide) eX0_tried_63 ?_
      refine V_aload2 eX0_tried_65 (zrf_rf _) ?_
      refine D_gI eX0_tried_66 fq_X0_92_tI H (fun v14 H => ?_)
      refine V_isub eX0_tried_69 ?_
      refine V_istore3 (znl_rf _) eX0_tried_70 rfl ?_
      refine V_aload0 eX0_tried_71 (zrf_rf _) ?_
      refine V_iconst (v := 0) (by decide) eX0_tried_72 ?_
      refine D_pI eX0_tried_73 fq_X0_67_tN fn_X0_tried_67 H (fun h H => ?_)
      refine V_iload3 eX0_tried_76 ?_
      obtain ⟨rfl, rfl, rfl, rfl⟩ := zrt_ok H
      exact V_ireturn eX0_tried_77 rfl ⟨rfl, rfl⟩
  · have H := zif_t q H
    refine V_iconst (v := -1) (by decide) eX0_tried_9 ?_
    obtain ⟨rfl, rfl, rfl, rfl⟩ := zrt_ok H
    exact V_ireturn eX0_tried_10 rfl ⟨rfl, rfl⟩
def o_X25_init (w : Wd) (F : Nat) (x : Nat) : M Unit :=
  zrt ()
theorem c_X25_init {w : Wd} {F : Nat} {x : Nat} {h h1 : Hp} {y : Unit} {c s : Nat} (H : o_X25_init w F x h = some (y, h1, c, s)) : Con w mX25_init cX25_init 1 c s [.ref x] h (Ro (oU y) h1) := by
  unfold o_X25_init at H
  refine Con.of (ls := [some (va_rf (some x))]) (by decide +kernel) rfl rfl ?_
  refine V_aload0 eX25_init_0 (zrf_rf _) ?_
  refine V_objectinit eX25_init_1 q1695 q180 q181 rfl rfl ?_
  obtain ⟨rfl, rfl, rfl, rfl⟩ := zrt_ok H
  exact V_return (x := ()) eX25_init_4 rfl ⟨rfl, rfl⟩
theorem fn_X26_init_7 : FN mX26_init 7 f_X26_of := by
  intro k j e
  unfold f_X26_of at e
  split at e
  · cases e; exact Or.inr ⟨rfl, rfl, rfl, _, q1696, rfl⟩
  · cases e
def o_X26_init (w : Wd) (F : Nat) (x : Nat) (a1 : Option Nat) : M Unit :=
  zbd (o_X25_init w F x) fun _ =>
  zbd (zpR f_X26_of (some x) a1) fun _ =>
  zrt ()
theorem c_X26_init {w : Wd} {F : Nat} {x : Nat} {a1 : Option Nat} {h h1 : Hp} {y : Unit} {c s : Nat} (H : o_X26_init w F x a1 h = some (y, h1, c, s)) : Con w mX26_init cX26_init 2 c s [.ref x, va_rf a1] h (Ro (oU y) h1) := by
  unfold o_X26_init at H
  refine Con.of (ls := [some (va_rf (some x)), some (va_rf a1)]) (by decide +kernel) (by simp only [zsl_r, zsl_i, zsl_l, zsl_n, zsl_a]; rfl) (by simp only [zar_r, zar_i, zar_l, zar_n, zar_a]; rfl) ?_
  refine V_aload0 eX26_init_0 (zrf_rf _) ?_
  refine D_callU (pc' := 4) (st := []) H (fun v h' c1 s1 e cb sb k => ?_) (fun v1 h c s H => ?_)
  · exact V_invokeinitN eX26_init_1 lmX25_init rfl rfl q1692 q1693 (c_X25_init e) (hRet_oU _ _) rfl rfl rfl rfl (kOU k)
  refine V_aload0 eX26_init_4 (zrf_rf _) ?_
  refine V_aload1 eX26_init_5 (zrf_rf _) ?_
  refine D_pR eX26_init_6 fq_X26_7_tR fn_X26_init_7 H (fun h H => ?_)
  obtain ⟨rfl, rfl, rfl, rfl⟩ := zrt_ok H
  exact V_return (x := ()) eX26_init_9 rfl ⟨rfl, rfl⟩
def o_X26_same (w : Wd) (F : Nat) (x : Nat) : M (Option Nat) :=
  zbd (znw 26 0 1) fun n1 =>
  zbd (zgR f_X26_of (some x)) fun v2 =>
  zbd (zcln 2 (zgo n1 5) v2) fun n3 =>
  zbd (zcA 2 n3) fun _ =>
  zbd (znn n1 (fun a => o_X26_init w F a n3)) fun _ =>
  zrt n1
theorem c_X26_same {w : Wd} {F : Nat} {x : Nat} {h h1 : Hp} {y : Option Nat} {c s : Nat} (H : o_X26_same w F x h = some (y, h1, c, s)) : Con w mX26_same cX26_same 3 c s [.ref x] h (Ro (oR y) h1) := by
  unfold o_X26_same at H
  refine Con.of (ls := [some (va_rf (some x))]) (by decide +kernel) rfl rfl ?_
  refine D_new (g := 0) eX26_same_0 nl_X26_8 rfl H (fun n1 h c s H => ?_)
  refine V_dup (zcr _) eX26_same_3 ?_
  refine V_aload0 eX26_same_4 (zrf_rf _) ?_
  refine D_gR eX26_same_5 fq_X26_7_tR H (fun v2 H => ?_)
  refine D_clone (cT := 2) (g := (zgo n1 5)) eX26_same_8 rfl (by decide +kernel) q1687 q1642 q1631 q1632 q1643 q1644 rfl (by simp only [List.map_cons, List.map_nil, zcr]; rfl) H (fun n3 h c s H => ?_)
  refine D_castA (cT := 2) eX26_same_11 q1688 (by decide +kernel) H (fun H => ?_)
  refine D_callU (pc' := 17) (st := [va_rf n1]) H (fun v h' c1 s1 e cb sb k => ?_) (fun v4 h c s H => ?_)
  · obtain ⟨a, hr, e9⟩ := znn_ok e
    cases hr
    exact V_invokeinit eX26_same_14 lmX26_init rfl rfl q1689 q1690 (c_X26_init e9) (hRet_oU _ _) rfl rfl rfl (by simp only [List.map_cons, List.map_nil, zcr]; rfl) (kOU k)
  obtain ⟨rfl, rfl, rfl, rfl⟩ := zrt_ok H
  exact V_areturn eX26_same_17 rfl (Or.inl ⟨_, rfl⟩) ⟨rfl, rfl⟩
theorem fn_X27_init_7 : FN mX27_init 7 f_X27_of := by
  intro k j e
  unfold f_X27_of at e
  split at e
  · cases e; exact Or.inr ⟨rfl, rfl, rfl, _, q1712, rfl⟩
  · cases e
def o_X27_init (w : Wd) (F : Nat) (x : Nat) (a1 : Option Nat) : M Unit :=
  zbd (o_X25_init w F x) fun _ =>
  zbd (zpR f_X27_of (some x) a1) fun _ =>
  zrt ()
theorem c_X27_init {w : Wd} {F : Nat} {x : Nat} {a1 : Option Nat} {h h1 : Hp} {y : Unit} {c s : Nat} (H : o_X27_init w F x a1 h = some (y, h1, c, s)) : Con w mX27_init cX27_init 2 c s [.ref x, va_rf a1] h (Ro (oU y) h1) := by
  unfold o_X27_init at H
  refine Con.of (ls := [some (va_rf (some x)), some (va_rf a1)]) (by decide +kernel) (by simp only [zsl_r, zsl_i, zsl_l, zsl_n, zsl_a]; rfl) (by simp only [zar_r, zar_i, zar_l, zar_n, zar_a]; rfl) ?_
  refine V_aload0 eX27_init_0 (zrf_rf _) ?_
  refine D_callU (pc' := 4) (st := []) H (fun v h' c1 s1 e cb sb k => ?_) (fun v1 h c s H => ?_)
  · exact V_invokeinitN eX27_init_1 lmX25_init rfl rfl q1711 q1693 (c_X25_init e) (hRet_oU _ _) rfl rfl rfl rfl (kOU k)
  refine V_aload0 eX27_init_4 (zrf_rf _) ?_
  refine V_aload1 eX27_init_5 (zrf_rf _) ?_
  refine D_pR eX27_init_6 fq_X27_7_tR fn_X27_init_7 H (fun h H => ?_)
  obtain ⟨rfl, rfl, rfl, rfl⟩ := zrt_ok H
  exact V_return (x := ()) eX27_init_9 rfl ⟨rfl, rfl⟩
def o_X27_same (w : Wd) (F : Nat) (x : Nat) : M (Option Nat) :=
  zbd (znw 27 0 1) fun n1 =>
  zbd (zgR f_X27_of (some x)) fun v2 =>
  zbd (zcln 0 (zgo n1 5) v2) fun n3 =>
  zbd (zcA 0 n3) fun _ =>
  zbd (znn n1 (fun a => o_X27_init w F a n3)) fun _ =>
  zrt n1
theorem c_X27_same {w : Wd} {F : Nat} {x : Nat} {h h1 : Hp} {y : Option Nat} {c s : Nat} (H : o_X27_same w F x h = some (y, h1, c, s)) : Con w mX27_same cX27_same 3 c s [.ref x] h (Ro (oR y) h1) := by
  unfold o_X27_same at H
  refine Con.of (ls := [some (va_rf (some x))]) (by decide +kernel) rfl rfl ?_
  refine D_new (g := 0) eX27_same_0 nl_X27_8 rfl H (fun n1 h c s H => ?_)
  refine V_dup (zcr _) eX27_same_3 ?_
  refine V_aload0 eX27_same_4 (zrf_rf _) ?_
  refine D_gR eX27_same_5 fq_X27_7_tR H (fun v2 H => ?_)
  refine D_clone (cT := 0) (g := (zgo n1 5)) eX27_same_8 rfl (by decide +kernel) q1706 q1630 q1631 q1632 q1633 q1634 rfl (by simp only [List.map_cons, List.map_nil, zcr]; rfl) H (fun n3 h c s H => ?_)
  refine D_castA (cT := 0) eX27_same_11 q1707 (by decide +kernel) H (fun H => ?_)
  refine D_callU (pc' := 17) (st := [va_rf n1]) H (fun v h' c1 s1 e cb sb k => ?_) (fun v4 h c s H => ?_)
  · obtain ⟨a, hr, e9⟩ := znn_ok e
    cases hr
    exact V_invokeinit eX27_same_14 lmX27_init rfl rfl q1708 q1709 (c_X27_init e9) (hRet_oU _ _) rfl rfl rfl (by simp only [List.map_cons, List.map_nil, zcr]; rfl) (kOU k)
  obtain ⟨rfl, rfl, rfl, rfl⟩ := zrt_ok H
  exact V_areturn eX27_same_17 rfl (Or.inl ⟨_, rfl⟩) ⟨rfl, rfl⟩
theorem fn_X28_init_7 : FN mX28_init 7 f_X28_of := by
  intro k j e
  unfold f_X28_of at e
  split at e
  · cases e; exact Or.inr ⟨rfl, rfl, rfl, _, q1730, rfl⟩
  · cases e
def o_X28_init (w : Wd) (F : Nat) (x : Nat) (a1 : Option Nat) : M Unit :=
  zbd (o_X25_init w F x) fun _ =>
  zbd (zpR f_X28_of (some x) a1) fun _ =>
  zrt ()
theorem c_X28_init {w : Wd} {F : Nat} {x : Nat} {a1 : Option Nat} {h h1 : Hp} {y : Unit} {c s : Nat} (H : o_X28_init w F x a1 h = some (y, h1, c, s)) : Con w mX28_init cX28_init 2 c s [.ref x, va_rf a1] h (Ro (oU y) h1) := by
  unfold o_X28_init at H
  refine Con.of (ls := [some (va_rf (some x)), some (va_rf a1)]) (by decide +kernel) (by simp only [zsl_r, zsl_i, zsl_l, zsl_n, zsl_a]; rfl) (by simp only [zar_r, zar_i, zar_l, zar_n, zar_a]; rfl) ?_
  refine V_aload0 eX28_init_0 (zrf_rf _) ?_
  refine D_callU (pc' := 4) (st := []) H (fun v h' c1 s1 e cb sb k => ?_) (fun v1 h c s H => ?_)
  · exact V_invokeinitN eX28_init_1 lmX25_init rfl rfl q1729 q1693 (c_X25_init e) (hRet_oU _ _) rfl rfl rfl rfl (kOU k)
  refine V_aload0 eX28_init_4 (zrf_rf _) ?_
  refine V_aload1 eX28_init_5 (zrf_rf _) ?_
  refine D_pR eX28_init_6 fq_X28_7_tR fn_X28_init_7 H (fun h H => ?_)
  obtain ⟨rfl, rfl, rfl, rfl⟩ := zrt_ok H
  exact V_return (x := ()) eX28_init_9 rfl ⟨rfl, rfl⟩
def o_X28_same (w : Wd) (F : Nat) (x : Nat) : M (Option Nat) :=
  zbd (znw 28 0 1) fun n1 =>
  zbd (zgR f_X28_of (some x)) fun v2 =>
  zbd (zcln 3 (zgo n1 5) v2) fun n3 =>
  zbd (zcA 3 n3) fun _ =>
  zbd (znn n1 (fun a => o_X28_init w F a n3)) fun _ =>
  zrt n1
theorem c_X28_same {w : Wd} {F : Nat} {x : Nat} {h h1 : Hp} {y : Option Nat} {c s : Nat} (H : o_X28_same w F x h = some (y, h1, c, s)) : Con w mX28_same cX28_same 3 c s [.ref x] h (Ro (oR y) h1) := by
  unfold o_X28_same at H
  refine Con.of (ls := [some (va_rf (some x))]) (by decide +kernel) rfl rfl ?_
  refine D_new (g := 0) eX28_same_0 nl_X28_8 rfl H (fun n1 h c s H => ?_)
  refine V_dup (zcr _) eX28_same_3 ?_
  refine V_aload0 eX28_same_4 (zrf_rf _) ?_
  refine D_gR eX28_same_5 fq_X28_7_tR H (fun v2 H => ?_)
  refine D_clone (cT := 3) (g := (zgo n1 5)) eX28_same_8 rfl (by decide +kernel) q1721 q1722 q1631 q1632 q1723 q1724 rfl (by simp only [List.map_cons, List.map_nil, zcr]; rfl) H (fun n3 h c s H => ?_)
  refine D_castA (cT := 3) eX28_same_11 q1725 (by decide +kernel) H (fun H => ?_)
  refine D_callU (pc' := 17) (st := [va_rf n1]) H (fun v h' c1 s1 e cb sb k => ?_) (fun v4 h c s H => ?_)
  · obtain ⟨a, hr, e9⟩ := znn_ok e
    cases hr
    exact V_invokeinit eX28_same_14 lmX28_init rfl rfl q1726 q1727 (c_X28_init e9) (hRet_oU _ _) rfl rfl rfl (by simp only [List.map_cons, List.map_nil, zcr]; rfl) (kOU k)
  obtain ⟨rfl, rfl, rfl, rfl⟩ := zrt_ok H
  exact V_areturn eX28_same_17 rfl (Or.inl ⟨_, rfl⟩) ⟨rfl, rfl⟩
def f_X24_this_0 : Nat → Option Nat := fun k => match k with
  | 24 => some 21
  | _ => none
theorem fq_X24_3_tR : FQ RX24 3 f_X24_this_0 tR := by
  intro k j e
  unfold f_X24_this_0 at e
  split at e
  · cases e; exact ⟨fl_X24_3_24, Or.inl ⟨_, rfl⟩⟩
  · cases e
theorem fn_X24_init_3 : FN mX24_init 3 f_X24_this_0 := by
  intro k j e
  unfold f_X24_this_0 at e
  split at e
  · cases e; exact Or.inr ⟨rfl, rfl, rfl, _, q1756, rfl⟩
  · cases e
theorem fq_X24_15_tR : FQ RX24 15 f_X0_height tR := by
  intro k j e
  unfold f_X0_height at e
  split at e
  · cases e; exact ⟨fl_X24_15_0, Or.inr ⟨_, rfl⟩⟩
  · cases e
def f_X24_heightWas : Nat → Option Nat := fun k => match k with
  | 24 => some 0
  | _ => none
theorem fq_X24_24_tR : FQ RX24 24 f_X24_heightWas tR := by
  intro k j e
  unfold f_X24_heightWas at e
  split at e
  · cases e; exact ⟨fl_X24_24_24, Or.inr ⟨_, rfl⟩⟩
  · cases e
theorem fn_X24_init_24 : FN mX24_init 24 f_X24_heightWas := by
  intro k j e
  unfold f_X24_heightWas at e
  split at e
  · cases e; exact Or.inr ⟨rfl, rfl, rfl, _, q1735, rfl⟩
  · cases e
theorem fq_X24_27_tR : FQ RX24 27 f_X0_kind tR := by
  intro k j e
  unfold f_X0_kind at e
  split at e
  · cases e; exact ⟨fl_X24_27_0, Or.inr ⟨_, rfl⟩⟩
  · cases e
def f_X24_kindWas : Nat → Option Nat := fun k => match k with
  | 24 => some 1
  | _ => none
theorem fq_X24_30_tR : FQ RX24 30 f_X24_kindWas tR := by
  intro k j e
  unfold f_X24_kindWas at e
  split at e
  · cases e; exact ⟨fl_X24_30_24, Or.inr ⟨_, rfl⟩⟩
  · cases e
theorem fn_X24_init_30 : FN mX24_init 30 f_X24_kindWas := by
  intro k j e
  unfold f_X24_kindWas at e
  split at e
  · cases e; exact Or.inr ⟨rfl, rfl, rfl, _, q1736, rfl⟩
  · cases e
theorem fq_X24_33_tR : FQ RX24 33 f_X0_survey tR := by
  intro k j e
  unfold f_X0_survey at e
  split at e
  · cases e; exact ⟨fl_X24_33_0, Or.inr ⟨_, rfl⟩⟩
  · cases e
def f_X24_surveyWas : Nat → Option Nat := fun k => match k with
  | 24 => some 2
  | _ => none
theorem fq_X24_36_tR : FQ RX24 36 f_X24_surveyWas tR := by
  intro k j e
  unfold f_X24_surveyWas at e
  split at e
  · cases e; exact ⟨fl_X24_36_24, Or.inr ⟨_, rfl⟩⟩
  · cases e
theorem fn_X24_init_36 : FN mX24_init 36 f_X24_surveyWas := by
  intro k j e
  unfold f_X24_surveyWas at e
  split at e
  · cases e; exact Or.inr ⟨rfl, rfl, rfl, _, q1737, rfl⟩
  · cases e
theorem fq_X24_39_tR : FQ RX24 39 f_X0_press tR := by
  intro k j e
  unfold f_X0_press at e
  split at e
  · cases e; exact ⟨fl_X24_39_0, Or.inr ⟨_, rfl⟩⟩
  · cases e
def f_X24_pressWas : Nat → Option Nat := fun k => match k with
  | 24 => some 3
  | _ => none
theorem fq_X24_42_tR : FQ RX24 42 f_X24_pressWas tR := by
  intro k j e
  unfold f_X24_pressWas at e
  split at e
  · cases e; exact ⟨fl_X24_42_24, Or.inr ⟨_, rfl⟩⟩
  · cases e
theorem fn_X24_init_42 : FN mX24_init 42 f_X24_pressWas := by
  intro k j e
  unfold f_X24_pressWas at e
  split at e
  · cases e; exact Or.inr ⟨rfl, rfl, rfl, _, q1738, rfl⟩
  · cases e
theorem fq_X24_45_tR : FQ RX24 45 f_X0_coins tR := by
  intro k j e
  unfold f_X0_coins at e
  split at e
  · cases e; exact ⟨fl_X24_45_0, Or.inr ⟨_, rfl⟩⟩
  · cases e
def f_X24_coinsWere : Nat → Option Nat := fun k => match k with
  | 24 => some 4
  | _ => none
theorem fq_X24_51_tR : FQ RX24 51 f_X24_coinsWere tR := by
  intro k j e
  unfold f_X24_coinsWere at e
  split at e
  · cases e; exact ⟨fl_X24_51_24, Or.inr ⟨_, rfl⟩⟩
  · cases e
theorem fn_X24_init_51 : FN mX24_init 51 f_X24_coinsWere := by
  intro k j e
  unfold f_X24_coinsWere at e
  split at e
  · cases e; exact Or.inr ⟨rfl, rfl, rfl, _, q1739, rfl⟩
  · cases e
theorem fq_X24_54_tR : FQ RX24 54 f_X0_tape tR := by
  intro k j e
  unfold f_X0_tape at e
  split at e
  · cases e; exact ⟨fl_X24_54_0, Or.inr ⟨_, rfl⟩⟩
  · cases e
def f_X24_tapeWas : Nat → Option Nat := fun k => match k with
  | 24 => some 5
  | _ => none
theorem fq_X24_60_tR : FQ RX24 60 f_X24_tapeWas tR := by
  intro k j e
  unfold f_X24_tapeWas at e
  split at e
  · cases e; exact ⟨fl_X24_60_24, Or.inr ⟨_, rfl⟩⟩
  · cases e
theorem fn_X24_init_60 : FN mX24_init 60 f_X24_tapeWas := by
  intro k j e
  unfold f_X24_tapeWas at e
  split at e
  · cases e; exact Or.inr ⟨rfl, rfl, rfl, _, q1740, rfl⟩
  · cases e
theorem fq_X24_63_tI : FQ RX24 63 f_X0_today tI := by
  intro k j e
  unfold f_X0_today at e
  split at e
  · cases e; exact ⟨fl_X24_63_0, Or.inl rfl⟩
  · cases e
def f_X24_todayWas : Nat → Option Nat := fun k => match k with
  | 24 => some 6
  | _ => none
theorem fq_X24_67_tN : FQ RX24 67 f_X24_todayWas tN := by
  intro k j e
  unfold f_X24_todayWas at e
  split at e
  · cases e; exact ⟨fl_X24_67_24, rfl⟩
  · cases e
theorem fn_X24_init_67 : FN mX24_init 67 f_X24_todayWas := by
  intro k j e
  unfold f_X24_todayWas at e
  split at e
  · cases e; exact Or.inr ⟨rfl, rfl, rfl, _, q1741, rfl⟩
  · cases e
theorem fq_X24_70_tI : FQ RX24 70 f_X0_men tI := by
  intro k j e
  unfold f_X0_men at e
  split at e
  · cases e; exact ⟨fl_X24_70_0, Or.inl rfl⟩
  · cases e
def f_X24_menWere : Nat → Option Nat := fun k => match k with
  | 24 => some 7
  | _ => none
theorem fq_X24_73_tN : FQ RX24 73 f_X24_menWere tN := by
  intro k j e
  unfold f_X24_menWere at e
  split at e
  · cases e; exact ⟨fl_X24_73_24, rfl⟩
  · cases e
theorem fn_X24_init_73 : FN mX24_init 73 f_X24_menWere := by
  intro k j e
  unfold f_X24_menWere at e
  split at e
  · cases e; exact Or.inr ⟨rfl, rfl, rfl, _, q1742, rfl⟩
  · cases e
theorem fq_X24_76_tI : FQ RX24 76 f_X0_taped tI := by
  intro k j e
  unfold f_X0_taped at e
  split at e
  · cases e; exact ⟨fl_X24_76_0, Or.inl rfl⟩
  · cases e
def f_X24_tapedWas : Nat → Option Nat := fun k => match k with
  | 24 => some 8
  | _ => none
theorem fq_X24_79_tN : FQ RX24 79 f_X24_tapedWas tN := by
  intro k j e
  unfold f_X24_tapedWas at e
  split at e
  · cases e; exact ⟨fl_X24_79_24, rfl⟩
  · cases e
theorem fn_X24_init_79 : FN mX24_init 79 f_X24_tapedWas := by
  intro k j e
  unfold f_X24_tapedWas at e
  split at e
  · cases e; exact Or.inr ⟨rfl, rfl, rfl, _, q1743, rfl⟩
  · cases e
theorem fq_X24_82_tI : FQ RX24 82 f_X0_jobs tI := by
  intro k j e
  unfold f_X0_jobs at e
  split at e
  · cases e; exact ⟨fl_X24_82_0, Or.inl rfl⟩
  · cases e
def f_X24_jobsWere : Nat → Option Nat := fun k => match k with
  | 24 => some 9
  | _ => none
theorem fq_X24_85_tN : FQ RX24 85 f_X24_jobsWere tN := by
  intro k j e
  unfold f_X24_jobsWere at e
  split at e
  · cases e; exact ⟨fl_X24_85_24, rfl⟩
  · cases e
theorem fn_X24_init_85 : FN mX24_init 85 f_X24_jobsWere := by
  intro k j e
  unfold f_X24_jobsWere at e
  split at e
  · cases e; exact Or.inr ⟨rfl, rfl, rfl, _, q1744, rfl⟩
  · cases e
theorem fq_X24_88_tI : FQ RX24 88 f_X0_schemes tI := by
  intro k j e
  unfold f_X0_schemes at e
  split at e
  · cases e; exact ⟨fl_X24_88_0, Or.inl rfl⟩
  · cases e
def f_X24_schemesWere : Nat → Option Nat := fun k => match k with
  | 24 => some 10
  | _ => none
theorem fq_X24_91_tN : FQ RX24 91 f_X24_schemesWere tN := by
  intro k j e
  unfold f_X24_schemesWere at e
  split at e
  · cases e; exact ⟨fl_X24_91_24, rfl⟩
  · cases e
theorem fn_X24_init_91 : FN mX24_init 91 f_X24_schemesWere := by
  intro k j e
  unfold f_X24_schemesWere at e
  split at e
  · cases e; exact Or.inr ⟨rfl, rfl, rfl, _, q1745, rfl⟩
  · cases e
theorem fq_X24_94_tR : FQ RX24 94 f_X0_towns tR := by
  intro k j e
  unfold f_X0_towns at e
  split at e
  · cases e; exact ⟨fl_X24_94_0, Or.inl ⟨_, rfl⟩⟩
  · cases e
def f_X24_townsWere : Nat → Option Nat := fun k => match k with
  | 24 => some 11
  | _ => none
theorem fq_X24_104_tN : FQ RX24 104 f_X24_townsWere tN := by
  intro k j e
  unfold f_X24_townsWere at e
  split at e
  · cases e; exact ⟨fl_X24_104_24, rfl⟩
  · cases e
theorem fn_X24_init_104 : FN mX24_init 104 f_X24_townsWere := by
  intro k j e
  unfold f_X24_townsWere at e
  split at e
  · cases e; exact Or.inr ⟨rfl, rfl, rfl, _, q1746, rfl⟩
  · cases e
theorem fq_X24_107_tR : FQ RX24 107 f_X0_orders tR := by
  intro k j e
  unfold f_X0_orders at e
  split at e
  · cases e; exact ⟨fl_X24_107_0, Or.inl ⟨_, rfl⟩⟩
  · cases e
def f_X24_ordersWere : Nat → Option Nat := fun k => match k with
  | 24 => some 12
  | _ => none
theorem fq_X24_110_tN : FQ RX24 110 f_X24_ordersWere tN := by
  intro k j e
  unfold f_X24_ordersWere at e
  split at e
  · cases e; exact ⟨fl_X24_110_24, rfl⟩
  · cases e
theorem fn_X24_init_110 : FN mX24_init 110 f_X24_ordersWere := by
  intro k j e
  unfold f_X24_ordersWere at e
  split at e
  · cases e; exact Or.inr ⟨rfl, rfl, rfl, _, q1747, rfl⟩
  · cases e
theorem fq_X24_113_tR : FQ RX24 113 f_X0_votes tR := by
  intro k j e
  unfold f_X0_votes at e
  split at e
  · cases e; exact ⟨fl_X24_113_0, Or.inl ⟨_, rfl⟩⟩
  · cases e
def f_X24_votesWere : Nat → Option Nat := fun k => match k with
  | 24 => some 13
  | _ => none
theorem fq_X24_116_tN : FQ RX24 116 f_X24_votesWere tN := by
  intro k j e
  unfold f_X24_votesWere at e
  split at e
  · cases e; exact ⟨fl_X24_116_24, rfl⟩
  · cases e
theorem fn_X24_init_116 : FN mX24_init 116 f_X24_votesWere := by
  intro k j e
  unfold f_X24_votesWere at e
  split at e
  · cases e; exact Or.inr ⟨rfl, rfl, rfl, _, q1748, rfl⟩
  · cases e
theorem fq_X24_119_tR : FQ RX24 119 f_X0_papers tR := by
  intro k j e
  unfold f_X0_papers at e
  split at e
  · cases e; exact ⟨fl_X24_119_0, Or.inl ⟨_, rfl⟩⟩
  · cases e
def f_X24_papersWere : Nat → Option Nat := fun k => match k with
  | 24 => some 14
  | _ => none
theorem fq_X24_122_tN : FQ RX24 122 f_X24_papersWere tN := by
  intro k j e
  unfold f_X24_papersWere at e
  split at e
  · cases e; exact ⟨fl_X24_122_24, rfl⟩
  · cases e
theorem fn_X24_init_122 : FN mX24_init 122 f_X24_papersWere := by
  intro k j e
  unfold f_X24_papersWere at e
  split at e
  · cases e; exact Or.inr ⟨rfl, rfl, rfl, _, q1749, rfl⟩
  · cases e
theorem fq_X24_125_tR : FQ RX24 125 f_X0_standing tR := by
  intro k j e
  unfold f_X0_standing at e
  split at e
  · cases e; exact ⟨fl_X24_125_0, Or.inl ⟨_, rfl⟩⟩
  · cases e
def f_X24_standingWas : Nat → Option Nat := fun k => match k with
  | 24 => some 15
  | _ => none
theorem fq_X24_131_tR : FQ RX24 131 f_X24_standingWas tR := by
  intro k j e
  unfold f_X24_standingWas at e
  split at e
  · cases e; exact ⟨fl_X24_131_24, Or.inl ⟨_, rfl⟩⟩
  · cases e
theorem fn_X24_init_131 : FN mX24_init 131 f_X24_standingWas := by
  intro k j e
  unfold f_X24_standingWas at e
  split at e
  · cases e; exact Or.inr ⟨rfl, rfl, rfl, _, q1750, rfl⟩
  · cases e
def f_X24_leftWas : Nat → Option Nat := fun k => match k with
  | 24 => some 16
  | _ => none
theorem fq_X24_134_tR : FQ RX24 134 f_X24_leftWas tR := by
  intro k j e
  unfold f_X24_leftWas at e
  split at e
  · cases e; exact ⟨fl_X24_134_24, Or.inr ⟨_, rfl⟩⟩
  · cases e
theorem fn_X24_init_134 : FN mX24_init 134 f_X24_leftWas := by
  intro k j e
  unfold f_X24_leftWas at e
  split at e
  · cases e; exact Or.inr ⟨rfl, rfl, rfl, _, q1751, rfl⟩
  · cases e
def f_X24_of : Nat → Option Nat := fun k => match k with
  | 24 => some 17
  | _ => none
theorem fq_X24_137_tR : FQ RX24 137 f_X24_of tR := by
  intro k j e
  unfold f_X24_of at e
  split at e
  · cases e; exact ⟨fl_X24_137_24, Or.inr ⟨_, rfl⟩⟩
  · cases e
theorem fn_X24_init_137 : FN mX24_init 137 f_X24_of := by
  intro k j e
  unfold f_X24_of at e
  split at e
  · cases e; exact Or.inr ⟨rfl, rfl, rfl, _, q1752, rfl⟩
  · cases e
def f_X24_done : Nat → Option Nat := fun k => match k with
  | 24 => some 18
  | _ => none
theorem fq_X24_141_tR : FQ RX24 141 f_X24_done tR := by
  intro k j e
  unfold f_X24_done at e
  split at e
  · cases e; exact ⟨fl_X24_141_24, Or.inr ⟨_, rfl⟩⟩
  · cases e
theorem fn_X24_init_141 : FN mX24_init 141 f_X24_done := by
  intro k j e
  unfold f_X24_done at e
  split at e
  · cases e; exact Or.inr ⟨rfl, rfl, rfl, _, q1753, rfl⟩
  · cases e
def f_X24_sheetsWere : Nat → Option Nat := fun k => match k with
  | 24 => some 19
  | _ => none
theorem fq_X24_147_tR : FQ RX24 147 f_X24_sheetsWere tR := by
  intro k j e
  unfold f_X24_sheetsWere at e
  split at e
  · cases e; exact ⟨fl_X24_147_24, Or.inr ⟨_, rfl⟩⟩
  · cases e
theorem fn_X24_init_147 : FN mX24_init 147 f_X24_sheetsWere := by
  intro k j e
  unfold f_X24_sheetsWere at e
  split at e
  · cases e; exact Or.inr ⟨rfl, rfl, rfl, _, q1754, rfl⟩
  · cases e
def f_X24_heldWas : Nat → Option Nat := fun k => match k with
  | 24 => some 20
  | _ => none
theorem fq_X24_151_tR : FQ RX24 151 f_X24_heldWas tR := by
  intro k j e
  unfold f_X24_heldWas at e
  split at e
  · cases e; exact ⟨fl_X24_151_24, Or.inr ⟨_, rfl⟩⟩
  · cases e
theorem fn_X24_init_151 : FN mX24_init 151 f_X24_heldWas := by
  intro k j e
  unfold f_X24_heldWas at e
  split at e
  · cases e; exact Or.inr ⟨rfl, rfl, rfl, _, q1755, rfl⟩
  · cases e
theorem fq_X24_201_tR : FQ RX24 201 f_X0_sheets tR := by
  intro k j e
  unfold f_X0_sheets at e
  split at e
  · cases e; exact ⟨fl_X24_201_0, Or.inr ⟨_, rfl⟩⟩
  · cases e
def t_X25_same (w : Wd) (F : Nat) : Nat → Option (Nat → M (Option Nat)) := fun k => match k with
  | 26 => some (fun a => o_X26_same w F a)
  | 27 => some (fun a => o_X27_same w F a)
  | 28 => some (fun a => o_X28_same w F a)
  | _ => none
theorem t_X25_same_ok {w : Wd} {F : Nat} {k : Nat} {f : Nat → M (Option Nat)} (e : t_X25_same w F k = some f) : (k = 26 ∧ f = fun a => o_X26_same w F a) ∨ (k = 27 ∧ f = fun a => o_X27_same w F a) ∨ (k = 28 ∧ f = fun a => o_X28_same w F a) := by
  unfold t_X25_same at e
  split at e
  · cases e; exact Or.inl ⟨rfl, rfl⟩
  · cases e; exact Or.inr (Or.inl ⟨rfl, rfl⟩)
  · cases e; exact Or.inr (Or.inr (⟨rfl, rfl⟩))
  · cases e
theorem fq_X24_198_tR : FQ RX24 198 f_X13_held tR := by
  intro k j e
  unfold f_X13_held at e
  split at e
  · cases e; exact ⟨fl_X24_198_13, Or.inr ⟨_, rfl⟩⟩
  · cases e; exact ⟨fl_X24_198_15, Or.inr ⟨_, rfl⟩⟩
  · cases e; exact ⟨fl_X24_198_18, Or.inr ⟨_, rfl⟩⟩
  · cases e
theorem fq_X24_188_tL : FQ RX24 188 f_X13_coins tL := by
  intro k j e
  unfold f_X13_coins at e
  split at e
  · cases e; exact ⟨fl_X24_188_13, rfl⟩
  · cases e; exact ⟨fl_X24_188_15, rfl⟩
  · cases e; exact ⟨fl_X24_188_18, rfl⟩
  · cases e
theorem fq_X24_192_tI : FQ RX24 192 f_X13_price tI := by
  intro k j e
  unfold f_X13_price at e
  split at e
  · cases e; exact ⟨fl_X24_192_13, Or.inl rfl⟩
  · cases e; exact ⟨fl_X24_192_15, Or.inl rfl⟩
  · cases e; exact ⟨fl_X24_192_18, Or.inl rfl⟩
  · cases e
theorem fq_X24_195_tI : FQ RX24 195 f_X13_calledOn tI := by
  intro k j e
  unfold f_X13_calledOn at e
  split at e
  · cases e; exact ⟨fl_X24_195_13, Or.inl rfl⟩
  · cases e; exact ⟨fl_X24_195_15, Or.inl rfl⟩
  · cases e; exact ⟨fl_X24_195_18, Or.inl rfl⟩
  · cases e
theorem fq_X24_174_tI : FQ RX24 174 f_X18_left tI := by
  intro k j e
  unfold f_X18_left at e
  split at e
  · cases e; exact ⟨fl_X24_174_18, Or.inl rfl⟩
  · cases e
theorem fq_X24_177_tI : FQ RX24 177 f_X18_doneOn tI := by
  intro k j e
  unfold f_X18_doneOn at e
  split at e
  · cases e; exact ⟨fl_X24_177_18, Or.inl rfl⟩
  · cases e
theorem fq_X24_180_tL : FQ RX24 180 f_X18_barred tL := by
  intro k j e
  unfold f_X18_barred at e
  split at e
  · cases e; exact ⟨fl_X24_180_18, rfl⟩
  · cases e
theorem fq_X24_161_tI : FQ RX24 161 f_X20_left tI := by
  intro k j e
  unfold f_X20_left at e
  split at e
  · cases e; exact ⟨fl_X24_161_20, Or.inl rfl⟩
  · cases e
def d_X24_init_574 (w : Wd) (F : Nat) (k542 : Int32 → M Unit) (x : Nat) (a1 : Option Nat) (a2 : Int32) (s0 : Option Nat) (s1 : Int32) (s2 : Option Nat) : M Unit :=
  zbd (zsR 7 s0 s1 s2) fun _ =>
  k542 (a2 + (1 : Int32))
def B_X24_init_542 (w : Wd) (F : Nat) (k542 : Int32 → M Unit) (x : Nat) (a1 : Option Nat) (a2 : Int32) : M Unit :=
  zif ((4 : Int32) ≤ a2) (zrt ())
  (zbd (zgR f_X24_sheetsWere (some x)) fun v69 =>
  zbd (zgR f_X0_sheets a1) fun v70 =>
  zbd (zaR v70 a2) fun v71 =>
  zif (v71 = none) (d_X24_init_574 w F k542 x a1 a2 v69 a2 none)
  (zbd (zgR f_X0_sheets a1) fun v72 =>
  zbd (zaR v72 a2) fun v73 =>
  zbd (zvn (t_X25_same w F) v73) fun v74 =>
  d_X24_init_574 w F k542 x a1 a2 v69 a2 v74))
def d_X24_init_542 (w : Wd) (F : Nat) (x : Nat) (a1 : Option Nat) : Nat → Int32 → M Unit
  | 0, _ => zno
  | n + 1, a2 => B_X24_init_542 w F (d_X24_init_542 w F x a1 n) x a1 a2
def d_X24_init_534 (w : Wd) (F : Nat) (k497 : Int32 → M Unit) (x : Nat) (a1 : Option Nat) (a2 : Int32) : M Unit :=
  k497 (a2 + (1 : Int32))
def B_X24_init_497 (w : Wd) (F : Nat) (k497 : Int32 → M Unit) (x : Nat) (a1 : Option Nat) (a2 : Int32) : M Unit :=
  zbd (zgR f_X24_of (some x)) fun v67 =>
  zbd (zal v67) fun v68 =>
  zif (v68 ≤ a2) (d_X24_init_542 w F x a1 F (0 : Int32))
  (zbd (zv1 0 a1 (fun a => o_X0_schemeAt w F a a2)) fun v69 =>
  zif (v69 = none) (d_X24_init_534 w F k497 x a1 a2)
  (zbd (zgR f_X24_heldWas (some x)) fun v70 =>
  zbd (zv1 0 a1 (fun a => o_X0_schemeAt w F a a2)) fun v71 =>
  zbd (zgR f_X13_held v71) fun v72 =>
  zbd (zcln 0 33 v72) fun n73 =>
  zbd (zcA 0 n73) fun _ =>
  zbd (zsR 8 v70 a2 n73) fun _ =>
  d_X24_init_534 w F k497 x a1 a2))
def d_X24_init_497 (w : Wd) (F : Nat) (x : Nat) (a1 : Option Nat) : Nat → Int32 → M Unit
  | 0, _ => zno
  | n + 1, a2 => B_X24_init_497 w F (d_X24_init_497 w F x a1 n) x a1 a2
def d_X24_init_489 (w : Wd) (F : Nat) (k353 : Int32 → M Unit) (x : Nat) (a1 : Option Nat) (a2 : Int32) : M Unit :=
  k353 (a2 + (1 : Int32))
def B_X24_init_353 (w : Wd) (F : Nat) (k353 : Int32 → M Unit) (x : Nat) (a1 : Option Nat) (a2 : Int32) : M Unit :=
  zbd (zgR f_X24_of (some x)) fun v65 =>
  zbd (zal v65) fun v66 =>
  zif (v66 ≤ a2) (d_X24_init_497 w F x a1 F (0 : Int32))
  (zbd (zgR f_X24_done (some x)) fun v67 =>
  zbd (zgR f_X0_papers a1) fun v68 =>
  zbd (zv1 30 v68 (fun a => o_J2_get w F a a2)) fun v69 =>
  zbd (zcc y_X12 v69) fun _ =>
  zbd (zvn (t_X12_isDone w F) v69) fun v70 =>
  zbd (zsZ v67 a2 v70) fun _ =>
  zbd (zv1 0 a1 (fun a => o_X0_billAt w F a a2)) fun v71 =>
  zif (v71 = none) (zbd (zv1 0 a1 (fun a => o_X0_schemeAt w F a a2)) fun v72 =>
  zif (v72 = none) (d_X24_init_489 w F k353 x a1 a2)
  (zbd (zgR f_X24_of (some x)) fun v73 =>
  zbd (znA 150 32 (3 : Int32)) fun n74 =>
  zbd (zv1 0 a1 (fun a => o_X0_schemeAt w F a a2)) fun v75 =>
  zbd (zgL f_X13_coins v75) fun v76 =>
  zbd (zsL n74 (0 : Int32) v76) fun _ =>
  zbd (zv1 0 a1 (fun a => o_X0_schemeAt w F a a2)) fun v77 =>
  zbd (zgI f_X13_price v77) fun v78 =>
  zbd (zsL n74 (1 : Int32) (v78).toInt64) fun _ =>
  zbd (zv1 0 a1 (fun a => o_X0_schemeAt w F a a2)) fun v79 =>
  zbd (zgI f_X13_calledOn v79) fun v80 =>
  zbd (zsL n74 (2 : Int32) (v80).toInt64) fun _ =>
  zbd (zsR 9 v73 a2 n74) fun _ =>
  d_X24_init_489 w F k353 x a1 a2))
  (zbd (zgR f_X24_of (some x)) fun v81 =>
  zbd (znA 150 32 (3 : Int32)) fun n82 =>
  zbd (zv1 0 a1 (fun a => o_X0_billAt w F a a2)) fun v83 =>
  zbd (zgI f_X18_left v83) fun v84 =>
  zbd (zsL n82 (0 : Int32) (v84).toInt64) fun _ =>
  zbd (zv1 0 a1 (fun a => o_X0_billAt w F a a2)) fun v85 =>
  zbd (zgI f_X18_doneOn v85) fun v86 =>
  zbd (zsL n82 (1 : Int32) (v86).toInt64) fun _ =>
  zbd (zv1 0 a1 (fun a => o_X0_billAt w F a a2)) fun v87 =>
  zbd (zgL f_X18_barred v87) fun v88 =>
  zbd (zsL n82 (2 : Int32) v88) fun _ =>
  zbd (zsR 9 v81 a2 n82) fun _ =>
  d_X24_init_489 w F k353 x a1 a2))
def d_X24_init_353 (w : Wd) (F : Nat) (x : Nat) (a1 : Option Nat) : Nat → Int32 → M Unit
  | 0, _ => zno
  | n + 1, a2 => B_X24_init_353 w F (d_X24_init_353 w F x a1 n) x a1 a2
def B_X24_init_316 (w : Wd) (F : Nat) (k316 : Int32 → M Unit) (x : Nat) (a1 : Option Nat) (a2 : Int32) : M Unit :=
  zbd (zgR f_X24_leftWas (some x)) fun v63 =>
  zbd (zal v63) fun v64 =>
  zif (v64 ≤ a2) (d_X24_init_353 w F x a1 F (0 : Int32))
  (zbd (zgR f_X24_leftWas (some x)) fun v65 =>
  zbd (zgR f_X0_standing a1) fun v66 =>
  zbd (zv1 30 v66 (fun a => o_J2_get w F a a2)) fun v67 =>
  zbd (zcc y_X20 v67) fun _ =>
  zbd (zgI f_X20_left v67) fun v68 =>
  zbd (zsI 0 v65 a2 v68) fun _ =>
  k316 (a2 + (1 : Int32)))
def d_X24_init_316 (w : Wd) (F : Nat) (x : Nat) (a1 : Option Nat) : Nat → Int32 → M Unit
  | 0, _ => zno
  | n + 1, a2 => B_X24_init_316 w F (d_X24_init_316 w F x a1 n) x a1 a2
def o_X24_init (w : Wd) (F : Nat) (x : Nat) (a1 : Option Nat) : M Unit :=
  zbd (zpR f_X24_this_0 (some x) a1) fun _ =>
  zbd (zgR f_X24_this_0 (some x)) fun v2 =>
  zbd (zgR f_X0_height v2) fun v3 =>
  zbd (zcln 0 21 v3) fun n4 =>
  zbd (zcA 0 n4) fun _ =>
  zbd (zpR f_X24_heightWas (some x) n4) fun _ =>
  zbd (zgR f_X24_this_0 (some x)) fun v5 =>
  zbd (zgR f_X0_kind v5) fun v6 =>
  zbd (zcln 0 22 v6) fun n7 =>
  zbd (zcA 0 n7) fun _ =>
  zbd (zpR f_X24_kindWas (some x) n7) fun _ =>
  zbd (zgR f_X24_this_0 (some x)) fun v8 =>
  zbd (zgR f_X0_survey v8) fun v9 =>
  zbd (zcln 0 23 v9) fun n10 =>
  zbd (zcA 0 n10) fun _ =>
  zbd (zpR f_X24_surveyWas (some x) n10) fun _ =>
  zbd (zgR f_X24_this_0 (some x)) fun v11 =>
  zbd (zgR f_X0_press v11) fun v12 =>
  zbd (zcln 0 24 v12) fun n13 =>
  zbd (zcA 0 n13) fun _ =>
  zbd (zpR f_X24_pressWas (some x) n13) fun _ =>
  zbd (zgR f_X24_this_0 (some x)) fun v14 =>
  zbd (zgR f_X0_coins v14) fun v15 =>
  zbd (zcln 1 25 v15) fun n16 =>
  zbd (zcA 1 n16) fun _ =>
  zbd (zpR f_X24_coinsWere (some x) n16) fun _ =>
  zbd (zgR f_X24_this_0 (some x)) fun v17 =>
  zbd (zgR f_X0_tape v17) fun v18 =>
  zbd (zcln 2 26 v18) fun n19 =>
  zbd (zcA 2 n19) fun _ =>
  zbd (zpR f_X24_tapeWas (some x) n19) fun _ =>
  zbd (zgR f_X24_this_0 (some x)) fun v20 =>
  zbd (zgI f_X0_today v20) fun v21 =>
  zbd (zpI f_X24_todayWas (some x) v21) fun _ =>
  zbd (zgR f_X24_this_0 (some x)) fun v22 =>
  zbd (zgI f_X0_men v22) fun v23 =>
  zbd (zpI f_X24_menWere (some x) v23) fun _ =>
  zbd (zgR f_X24_this_0 (some x)) fun v24 =>
  zbd (zgI f_X0_taped v24) fun v25 =>
  zbd (zpI f_X24_tapedWas (some x) v25) fun _ =>
  zbd (zgR f_X24_this_0 (some x)) fun v26 =>
  zbd (zgI f_X0_jobs v26) fun v27 =>
  zbd (zpI f_X24_jobsWere (some x) v27) fun _ =>
  zbd (zgR f_X24_this_0 (some x)) fun v28 =>
  zbd (zgI f_X0_schemes v28) fun v29 =>
  zbd (zpI f_X24_schemesWere (some x) v29) fun _ =>
  zbd (zgR f_X24_this_0 (some x)) fun v30 =>
  zbd (zgR f_X0_towns v30) fun v31 =>
  zbd (zv1 30 v31 (fun a => o_J2_size w F a)) fun v32 =>
  zbd (zpI f_X24_townsWere (some x) v32) fun _ =>
  zbd (zgR f_X24_this_0 (some x)) fun v33 =>
  zbd (zgR f_X0_orders v33) fun v34 =>
  zbd (zv1 30 v34 (fun a => o_J2_size w F a)) fun v35 =>
  zbd (zpI f_X24_ordersWere (some x) v35) fun _ =>
  zbd (zgR f_X24_this_0 (some x)) fun v36 =>
  zbd (zgR f_X0_votes v36) fun v37 =>
  zbd (zv1 30 v37 (fun a => o_J2_size w F a)) fun v38 =>
  zbd (zpI f_X24_votesWere (some x) v38) fun _ =>
  zbd (zgR f_X24_this_0 (some x)) fun v39 =>
  zbd (zgR f_X0_papers v39) fun v40 =>
  zbd (zv1 30 v40 (fun a => o_J2_size w F a)) fun v41 =>
  zbd (zpI f_X24_papersWere (some x) v41) fun _ =>
  zbd (znw 30 7 3) fun n42 =>
  zbd (zgR f_X24_this_0 (some x)) fun v43 =>
  zbd (zgR f_X0_standing v43) fun v44 =>
  zbd (znn n42 (fun a => o_J2_init_2 w F a v44)) fun _ =>
  zbd (zpR f_X24_standingWas (some x) n42) fun _ =>
  zbd (zgR f_X24_this_0 (some x)) fun v46 =>
  zbd (zgR f_X0_standing v46) fun v47 =>
  zbd (zv1 30 v47 (fun a => o_J2_size w F a)) fun v48 =>
  zbd (znA 100 27 v48) fun n49 =>
  zbd (zpR f_X24_leftWas (some x) n49) fun _ =>
  zbd (zgR f_X24_this_0 (some x)) fun v50 =>
  zbd (zgR f_X0_papers v50) fun v51 =>
  zbd (zv1 30 v51 (fun a => o_J2_size w F a)) fun v52 =>
  zbd (znA 550 28 v52) fun n53 =>
  zbd (zpR f_X24_of (some x) n53) fun _ =>
  zbd (zgR f_X24_this_0 (some x)) fun v54 =>
  zbd (zgR f_X0_papers v54) fun v55 =>
  zbd (zv1 30 v55 (fun a => o_J2_size w F a)) fun v56 =>
  zbd (znA 350 29 v56) fun n57 =>
  zbd (zpR f_X24_done (some x) n57) fun _ =>
  zbd (znA 450 30 (4 : Int32)) fun n58 =>
  zbd (zpR f_X24_sheetsWere (some x) n58) fun _ =>
  zbd (zgR f_X24_this_0 (some x)) fun v59 =>
  zbd (zgR f_X0_papers v59) fun v60 =>
  zbd (zv1 30 v60 (fun a => o_J2_size w F a)) fun v61 =>
  zbd (znA 500 31 v61) fun n62 =>
  zbd (zpR f_X24_heldWas (some x) n62) fun _ =>
  d_X24_init_316 w F x a1 F (0 : Int32)
theorem b_X24_init_574 {w : Wd} {F : Nat} {k542 : Int32 → M Unit} {x : Nat} {a1 : Option Nat} (hk542 : ∀ (a2 : Int32) (h : Hp) (y : Unit) (h1 : Hp) (c s : Nat), k542 a2 h = some (y, h1, c, s) → V w mX24_init cX24_init 5 c s h 542 [some (va_rf (some x)), some (va_rf a1), some (.int a2)] [] (Ro (oU y) h1)) {a2 : Int32} {s0 : Option Nat} {s1 : Int32} {s2 : Option Nat} {h h1 : Hp} {y : Unit} {c s : Nat} (H : d_X24_init_574 w F k542 x a1 a2 s0 s1 s2 h = some (y, h1, c, s)) : V w mX24_init cX24_init 5 c s h 574 [some (va_rf (some x)), some (va_rf a1), some (.int a2)] [va_rf s2, .int s1, va_rf s0] (Ro (oU y) h1) := by
  unfold d_X24_init_574 at H
  refine D_aastore eX24_init_574 H (fun h H => ?_)
  refine V_iinc2 (znl_rf _) eX24_init_575 rfl (v := 1) (by decide) ?_
  refine V_goto eX24_init_578 ?_
  exact V_fg2 (hk542 _ _ _ _ _ _ H) (zfg_k (zfg_k (zfg_k zfg_e)))
theorem bB_X24_init_542 {w : Wd} {F : Nat} {k542 : Int32 → M Unit} {x : Nat} {a1 : Option Nat} (hk542 : ∀ (a2 : Int32) (h : Hp) (y : Unit) (h1 : Hp) (c s : Nat), k542 a2 h = some (y, h1, c, s) → V w mX24_init cX24_init 5 c s h 542 [some (va_rf (some x)), some (va_rf a1), some (.int a2)] [] (Ro (oU y) h1)) {a2 : Int32} {h h1 : Hp} {y : Unit} {c s : Nat} (H : B_X24_init_542 w F k542 x a1 a2 h = some (y, h1, c, s)) : V w mX24_init cX24_init 5 c s h 542 [some (va_rf (some x)), some (va_rf a1), some (.int a2)] [] (Ro (oU y) h1) := by
  unfold B_X24_init_542 at H
  refine V_iload2 eX24_init_542 ?_
  refine V_iconst (v := 4) (by decide) eX24_init_543 ?_
  refine V_if_icmpge eX24_init_544 (fun q => ?_) (fun q => ?_)
  · have H := zif_t q H
    obtain ⟨rfl, rfl, rfl, rfl⟩ := zrt_ok H
    exact V_return (x := ()) eX24_init_581 rfl ⟨rfl, rfl⟩
  · have H := zif_f q H
    refine V_aload0 eX24_init_547 (zrf_rf _) ?_
    refine D_gR eX24_init_548 fq_X24_147_tR H (fun v69 H => ?_)
    refine V_iload2 eX24_init_551 ?_
    refine V_aload1 eX24_init_552 (zrf_rf _) ?_
    refine D_gR eX24_init_553 fq_X24_201_tR H (fun v70 H => ?_)
    refine V_iload2 eX24_init_556 ?_
    refine D_aaload eX24_init_557 H (fun v71 H => ?_)
    refine V_ifnonnull eX24_init_558 (fun a q => ?_) (fun q => ?_)
    · have H := zif_f (zsn q) H
      refine V_aload1 eX24_init_565 (zrf_rf _) ?_
      refine D_gR eX24_init_566 fq_X24_201_tR H (fun v72 H => ?_)
      refine V_iload2 eX24_init_569 ?_
      refine D_aaload eX24_init_570 H (fun v73 H => ?_)
      refine D_callR (pc' := 574) (st := [.int a2, va_rf v69]) H (fun v h' c1 s1 e cb sb k => ?_) (fun v74 h c s H => ?_)
      · obtain ⟨a, f, hr, ha, ht, e9⟩ := zvn_ok e
        cases hr
        rcases t_X25_same_ok ht with ⟨hk, hf⟩ | ⟨hk, hf⟩ | ⟨hk, hf⟩
        · subst hf; exact V_invokevirtualU (k := 26) eX24_init_571 lmX26_same (⟨"LinesPromised$Sheet", q1679, q1681, q1682, q1683, q139, ⟨by decide, by decide⟩, rfl, Or.inr (Or.inr q1680)⟩) (by decide) ha hk (c_X26_same e9) (hRet_oR _ _) rfl rfl rfl (by simp only [List.map_cons, List.map_nil, zcr]; rfl) (kOR k)
        · subst hf; exact V_invokevirtualU (k := 27) eX24_init_571 lmX27_same (⟨"LinesPromised$Sheet", q1679, q1681, q1701, q1702, q140, ⟨by decide, by decide⟩, rfl, Or.inr (Or.inr q1680)⟩) (by decide) ha hk (c_X27_same e9) (hRet_oR _ _) rfl rfl rfl (by simp only [List.map_cons, List.map_nil, zcr]; rfl) (kOR k)
        · subst hf; exact V_invokevirtualU (k := 28) eX24_init_571 lmX28_same (⟨"LinesPromised$Sheet", q1679, q1681, q1716, q1717, q141, ⟨by decide, by decide⟩, rfl, Or.inr (Or.inr q1680)⟩) (by decide) ha hk (c_X28_same e9) (hRet_oR _ _) rfl rfl rfl (by simp only [List.map_cons, List.map_nil, zcr]; rfl) (kOR k)
      exact V_fg2 (b_X24_init_574 hk542 H) (zfg_k (zfg_k (zfg_k zfg_e)))
    · have H := zif_t q H
      refine D_null eX24_init_561 ?_
      refine V_goto eX24_init_562 ?_
      exact V_fg2 (b_X24_init_574 hk542 H) (zfg_k (zfg_k (zfg_k zfg_e)))
theorem b_X24_init_542 {w : Wd} {F : Nat} {x : Nat} {a1 : Option Nat} : ∀ (n : Nat) (a2 : Int32) (h : Hp) (y : Unit) (h1 : Hp) (c s : Nat), d_X24_init_542 w F x a1 n a2 h = some (y, h1, c, s) → V w mX24_init cX24_init 5 c s h 542 [some (va_rf (some x)), some (va_rf a1), some (.int a2)] [] (Ro (oU y) h1) := by
  intro n
  induction n with
  | zero => intro a2 h y h1 c s H; exact zno_no H
  | succ n ih => intro a2 h y h1 c s H; exact bB_X24_init_542 ih H
theorem b_X24_init_534 {w : Wd} {F : Nat} {k497 : Int32 → M Unit} {x : Nat} {a1 : Option Nat} (hk497 : ∀ (a2 : Int32) (h : Hp) (y : Unit) (h1 : Hp) (c s : Nat), k497 a2 h = some (y, h1, c, s) → V w mX24_init cX24_init 5 c s h 497 [some (va_rf (some x)), some (va_rf a1), some (.int a2)] [] (Ro (oU y) h1)) {a2 : Int32} {h h1 : Hp} {y : Unit} {c s : Nat} (H : d_X24_init_534 w F k497 x a1 a2 h = some (y, h1, c, s)) : V w mX24_init cX24_init 5 c s h 534 [some (va_rf (some x)), some (va_rf a1), some (.int a2)] [] (Ro (oU y) h1) := by
  unfold d_X24_init_534 at H
  refine V_iinc2 (znl_rf _) eX24_init_534 rfl (v := 1) (by decide) ?_
  refine V_goto eX24_init_537 ?_
  exact V_fg2 (hk497 _ _ _ _ _ _ H) (zfg_k (zfg_k (zfg_k zfg_e)))
theorem bB_X24_init_497 {w : Wd} {F : Nat} {k497 : Int32 → M Unit} {x : Nat} {a1 : Option Nat} (hk497 : ∀ (a2 : Int32) (h : Hp) (y : Unit) (h1 : Hp) (c s : Nat), k497 a2 h = some (y, h1, c, s) → V w mX24_init cX24_init 5 c s h 497 [some (va_rf (some x)), some (va_rf a1), some (.int a2)] [] (Ro (oU y) h1)) {a2 : Int32} {h h1 : Hp} {y : Unit} {c s : Nat} (H : B_X24_init_497 w F k497 x a1 a2 h = some (y, h1, c, s)) : V w mX24_init cX24_init 5 c s h 497 [some (va_rf (some x)), some (va_rf a1), some (.int a2)] [] (Ro (oU y) h1) := by
  unfold B_X24_init_497 at H
  refine V_iload2 eX24_init_497 ?_
  refine V_aload0 eX24_init_498 (zrf_rf _) ?_
  refine D_gR eX24_init_499 fq_X24_137_tR H (fun v67 H => ?_)
  refine D_arraylength eX24_init_502 H (fun v68 H => ?_)
  refine V_if_icmpge eX24_init_503 (fun q => ?_) (fun q => ?_)
  · have H := zif_t q H
    refine V_iconst (v := 0) (by decide) eX24_init_540 ?_
    refine V_istore2 (znl_rf _) eX24_init_541 rfl ?_
    exact V_fg2 (b_X24_init_542 _ _ _ _ _ _ _ H) (zfg_k (zfg_k (zfg_k zfg_e)))
  · have H := zif_f q H
    refine V_aload1 eX24_init_506 (zrf_rf _) ?_
    refine V_iload2 eX24_init_507 ?_
    refine D_callR (pc' := 511) (st := []) H (fun v h' c1 s1 e cb sb k => ?_) (fun v69 h c s H => ?_)
    · obtain ⟨a, hr, ha, hk, e9⟩ := zv1_ok e
      cases hr
      exact V_invokevirtualN (k := 0) eX24_init_508 lmX0_schemeAt q1678 q804 rfl rfl qs21 ha hk (c_X0_schemeAt e9) (hRet_oR _ _) rfl rfl rfl rfl (kOR k)
    refine V_ifnull eX24_init_511 (fun q => ?_) (fun a q => ?_)
    · have H := zif_t q H
      exact V_fg2 (b_X24_init_534 hk497 H) (zfg_k (zfg_k (zfg_k zfg_e)))
    · have H := zif_f (zsn q) H
      refine V_aload0 eX24_init_514 (zrf_rf _) ?_
      refine D_gR eX24_init_515 fq_X24_151_tR H (fun v70 H => ?_)
      refine V_iload2 eX24_init_518 ?_
      refine V_aload1 eX24_init_519 (zrf_rf _) ?_
      refine V_iload2 eX24_init_520 ?_
      refine D_callR (pc' := 524) (st := [.int a2, va_rf v70]) H (fun v h' c1 s1 e cb sb k => ?_) (fun v71 h c s H => ?_)
      · obtain ⟨a, hr, ha, hk, e9⟩ := zv1_ok e
        cases hr
        exact V_invokevirtualN (k := 0) eX24_init_521 lmX0_schemeAt q1678 q804 rfl rfl qs21 ha hk (c_X0_schemeAt e9) (hRet_oR _ _) rfl rfl rfl (by simp only [List.map_cons, List.map_nil, zcr]; rfl) (kOR k)
      refine D_gR eX24_init_524 fq_X24_198_tR H (fun v72 H => ?_)
      refine D_clone (cT := 0) (g := 33) eX24_init_527 rfl (by decide +kernel) q1629 q1630 q1631 q1632 q1633 q1634 rfl (by simp only [List.map_cons, List.map_nil, zcr]; rfl) H (fun n73 h c s H => ?_)
      refine D_castA (cT := 0) eX24_init_530 q1635 (by decide +kernel) H (fun H => ?_)
      refine D_aastore eX24_init_533 H (fun h H => ?_)
      exact V_fg2 (b_X24_init_534 hk497 H) (zfg_k (zfg_k (zfg_k zfg_e)))
theorem b_X24_init_497 {w : Wd} {F : Nat} {x : Nat} {a1 : Option Nat} : ∀ (n : Nat) (a2 : Int32) (h : Hp) (y : Unit) (h1 : Hp) (c s : Nat), d_X24_init_497 w F x a1 n a2 h = some (y, h1, c, s) → V w mX24_init cX24_init 5 c s h 497 [some (va_rf (some x)), some (va_rf a1), some (.int a2)] [] (Ro (oU y) h1) := by
  intro n
  induction n with
  | zero => intro a2 h y h1 c s H; exact zno_no H
  | succ n ih => intro a2 h y h1 c s H; exact bB_X24_init_497 ih H
theorem b_X24_init_489 {w : Wd} {F : Nat} {k353 : Int32 → M Unit} {x : Nat} {a1 : Option Nat} (hk353 : ∀ (a2 : Int32) (h : Hp) (y : Unit) (h1 : Hp) (c s : Nat), k353 a2 h = some (y, h1, c, s) → V w mX24_init cX24_init 5 c s h 353 [some (va_rf (some x)), some (va_rf a1), some (.int a2)] [] (Ro (oU y) h1)) {a2 : Int32} {h h1 : Hp} {y : Unit} {c s : Nat} (H : d_X24_init_489 w F k353 x a1 a2 h = some (y, h1, c, s)) : V w mX24_init cX24_init 5 c s h 489 [some (va_rf (some x)), some (va_rf a1), some (.int a2)] [] (Ro (oU y) h1) := by
  unfold d_X24_init_489 at H
  refine V_iinc2 (znl_rf _) eX24_init_489 rfl (v := 1) (by decide) ?_
  refine V_goto eX24_init_492 ?_
  exact V_fg2 (hk353 _ _ _ _ _ _ H) (zfg_k (zfg_k (zfg_k zfg_e)))
theorem bB_X24_init_353 {w : Wd} {F : Nat} {k353 : Int32 → M Unit} {x : Nat} {a1 : Option Nat} (hk353 : ∀ (a2 : Int32) (h : Hp) (y : Unit) (h1 : Hp) (c s : Nat), k353 a2 h = some (y, h1, c, s) → V w mX24_init cX24_init 5 c s h 353 [some (va_rf (some x)), some (va_rf a1), some (.int a2)] [] (Ro (oU y) h1)) {a2 : Int32} {h h1 : Hp} {y : Unit} {c s : Nat} (H : B_X24_init_353 w F k353 x a1 a2 h = some (y, h1, c, s)) : V w mX24_init cX24_init 5 c s h 353 [some (va_rf (some x)), some (va_rf a1), some (.int a2)] [] (Ro (oU y) h1) := by
  unfold B_X24_init_353 at H
  refine V_iload2 eX24_init_353 ?_
  refine V_aload0 eX24_init_354 (zrf_rf _) ?_
  refine D_gR eX24_init_355 fq_X24_137_tR H (fun v65 H => ?_)
  refine D_arraylength eX24_init_358 H (fun v66 H => ?_)
  refine V_if_icmpge eX24_init_359 (fun q => ?_) (fun q => ?_)
  · have H := zif_t q H
    refine V_iconst (v := 0) (by decide) eX24_init_495 ?_
    refine V_istore2 (znl_rf _) eX24_init_496 rfl ?_
    exact V_fg2 (b_X24_init_497 _ _ _ _ _ _ _ H) (zfg_k (zfg_k (zfg_k zfg_e)))
  · have H := zif_f q H
    refine V_aload0 eX24_init_362 (zrf_rf _) ?_
    refine D_gR eX24_init_363 fq_X24_141_tR H (fun v67 H => ?_)
    refine V_iload2 eX24_init_366 ?_
    refine V_aload1 eX24_init_367 (zrf_rf _) ?_
    refine D_gR eX24_init_368 fq_X24_119_tR H (fun v68 H => ?_)
    refine V_iload2 eX24_init_371 ?_
    refine D_callR (pc' := 375) (st := [.int a2, va_rf v67]) H (fun v h' c1 s1 e cb sb k => ?_) (fun v69 h c s H => ?_)
    · obtain ⟨a, hr, ha, hk, e9⟩ := zv1_ok e
      cases hr
      exact V_invokevirtual (k := 30) eX24_init_372 lmJ2_get q1673 q161 rfl rfl q162 ha hk (c_J2_get e9) (hRet_oR _ _) rfl rfl rfl (by simp only [List.map_cons, List.map_nil, zcr]; rfl) (kOR k)
    refine D_cast eX24_init_375 q1675 y_X12_ok H (fun H => ?_)
    refine D_callI (pc' := 381) (st := [.int a2, va_rf v67]) H (fun v h' c1 s1 e cb sb k => ?_) (fun v70 h c s H => ?_)
    · obtain ⟨a, f, hr, ha, ht, e9⟩ := zvn_ok e
      cases hr
      rcases t_X12_isDone_ok ht with ⟨hk, hf⟩ | ⟨hk, hf⟩ | ⟨hk, hf⟩ | ⟨hk, hf⟩ | ⟨hk, hf⟩ | ⟨hk, hf⟩
      · subst hf; exact V_invokevirtualU (k := 13) eX24_init_378 lmX13_isDone (⟨"LinesPromised$Paper", q1676, q1257, q1269, q1267, q125, ⟨by decide, by decide⟩, rfl, Or.inr (Or.inl ⟨q1256, _, _, _, q1270⟩)⟩) (by decide) ha hk (c_X13_isDone e9) (hRet_oI _ _) rfl rfl rfl (by simp only [List.map_cons, List.map_nil, zcr]; rfl) (kOI k)
      · subst hf; exact V_invokevirtualU (k := 15) eX24_init_378 lmX13_isDone (⟨"LinesPromised$Paper", q1676, q1257, q1266, q1267, q125, ⟨by decide, by decide⟩, rfl, Or.inr (Or.inl ⟨q1256, _, _, _, q1270⟩)⟩) (by decide) ha hk (c_X13_isDone e9) (hRet_oI _ _) rfl rfl rfl (by simp only [List.map_cons, List.map_nil, zcr]; rfl) (kOI k)
      · subst hf; exact V_invokevirtualU (k := 17) eX24_init_378 lmX12_isDone (⟨"LinesPromised$Paper", q1676, q1257, q1264, q1256, q124, ⟨by decide, by decide⟩, rfl, Or.inl rfl⟩) (by decide) ha hk (c_X12_isDone e9) (hRet_oI _ _) rfl rfl rfl (by simp only [List.map_cons, List.map_nil, zcr]; rfl) (kOI k)
      · subst hf; exact V_invokevirtualU (k := 18) eX24_init_378 lmX18_isDone (⟨"LinesPromised$Paper", q1676, q1257, q1258, q1259, q130, ⟨by decide, by decide⟩, rfl, Or.inr (Or.inl ⟨q1256, _, _, _, q1270⟩)⟩) (by decide) ha hk (c_X18_isDone e9) (hRet_oI _ _) rfl rfl rfl (by simp only [List.map_cons, List.map_nil, zcr]; rfl) (kOI k)
      · subst hf; exact V_invokevirtualU (k := 21) eX24_init_378 lmX21_isDone (⟨"LinesPromised$Paper", q1676, q1257, q1261, q1262, q133, ⟨by decide, by decide⟩, rfl, Or.inr (Or.inl ⟨q1256, _, _, _, q1270⟩)⟩) (by decide) ha hk (c_X21_isDone e9) (hRet_oI _ _) rfl rfl rfl (by simp only [List.map_cons, List.map_nil, zcr]; rfl) (kOI k)
      · subst hf; exact V_invokevirtualU (k := 22) eX24_init_378 lmX21_isDone (⟨"LinesPromised$Paper", q1676, q1257, q1265, q1262, q133, ⟨by decide, by decide⟩, rfl, Or.inr (Or.inl ⟨q1256, _, _, _, q1270⟩)⟩) (by decide) ha hk (c_X21_isDone e9) (hRet_oI _ _) rfl rfl rfl (by simp only [List.map_cons, List.map_nil, zcr]; rfl) (kOI k)
    refine D_zastore eX24_init_381 H (fun h H => ?_)
    refine V_aload1 eX24_init_382 (zrf_rf _) ?_
    refine V_iload2 eX24_init_383 ?_
    refine D_callR (pc' := 387) (st := []) H (fun v h' c1 s1 e cb sb k => ?_) (fun v71 h c s H => ?_)
    · obtain ⟨a, hr, ha, hk, e9⟩ := zv1_ok e
      cases hr
      exact V_invokevirtualN (k := 0) eX24_init_384 lmX0_billAt q1677 q1062 rfl rfl qs33 ha hk (c_X0_billAt e9) (hRet_oR _ _) rfl rfl rfl rfl (kOR k)
    refine V_ifnull eX24_init_387 (fun q => ?_) (fun a q => ?_)
    · have H := zif_t q H
      refine V_aload1 eX24_init_437 (zrf_rf _) ?_
      refine V_iload2 eX24_init_438 ?_
      refine D_callR (pc' := 442) (st := []) H (fun v h' c1 s1 e cb sb k => ?_) (fun v72 h c s H => ?_)
      · obtain ⟨a, hr, ha, hk, e9⟩ := zv1_ok e
        cases hr
        exact V_invokevirtualN (k := 0) eX24_init_439 lmX0_schemeAt q1678 q804 rfl rfl qs21 ha hk (c_X0_schemeAt e9) (hRet_oR _ _) rfl rfl rfl rfl (kOR k)
      refine V_ifnull eX24_init_442 (fun q => ?_) (fun a q => ?_)
      · have H := zif_t q H
        exact V_fg2 (b_X24_init_489 hk353 H) (zfg_k (zfg_k (zfg_k zfg_e)))
      · have H := zif_f (zsn q) H
        refine V_aload0 eX24_init_445 (zrf_rf _) ?_
        refine D_gR eX24_init_446 fq_X24_137_tR H (fun v73 H => ?_)
        refine V_iload2 eX24_init_449 ?_
        refine V_iconst (v := 3) (by decide) eX24_init_450 ?_
        refine D_newarray (g := 32) (κ := 150) (cT := 1) eX24_init_451 rfl rfl rfl q586 rfl (by decide) H (fun n74 h c s H => ?_)
        refine V_dup (zcr _) eX24_init_453 ?_
        refine V_iconst (v := 0) (by decide) eX24_init_454 ?_
        refine V_aload1 eX24_init_455 (zrf_rf _) ?_
        refine V_iload2 eX24_init_456 ?_
        refine D_callR (pc' := 460) (st := [.int (0 : Int32), va_rf n74, va_rf n74, .int a2, va_rf v73]) H (fun v h' c1 s1 e cb sb k => ?_) (fun v75 h c s H => ?_)
        · obtain ⟨a, hr, ha, hk, e9⟩ := zv1_ok e
          cases hr
          exact V_invokevirtualN (k := 0) eX24_init_457 lmX0_schemeAt q1678 q804 rfl rfl qs21 ha hk (c_X0_schemeAt e9) (hRet_oR _ _) rfl rfl rfl (by simp only [List.map_cons, List.map_nil, zcr]; rfl) (kOR k)
        refine D_gL eX24_init_460 fq_X24_188_tL H (fun v76 H => ?_)
        refine D_lastore eX24_init_463 H (fun h H => ?_)
        refine V_dup (zcr _) eX24_init_464 ?_
        refine V_iconst (v := 1) (by decide) eX24_init_465 ?_
        refine V_aload1 eX24_init_466 (zrf_rf _) ?_
        refine V_iload2 eX24_init_467 ?_
        refine D_callR (pc' := 471) (st := [.int (1 : Int32), va_rf n74, va_rf n74, .int a2, va_rf v73]) H (fun v h' c1 s1 e cb sb k => ?_) (fun v77 h c s H => ?_)
        · obtain ⟨a, hr, ha, hk, e9⟩ := zv1_ok e
          cases hr
          exact V_invokevirtualN (k := 0) eX24_init_468 lmX0_schemeAt q1678 q804 rfl rfl qs21 ha hk (c_X0_schemeAt e9) (hRet_oR _ _) rfl rfl rfl (by simp only [List.map_cons, List.map_nil, zcr]; rfl) (kOR k)
        refine D_gI eX24_init_471 fq_X24_192_tI H (fun v78 H => ?_)
        refine V_i2l eX24_init_474 ?_
        refine D_lastore eX24_init_475 H (fun h H => ?_)
        refine V_dup (zcr _) eX24_init_476 ?_
        refine V_iconst (v := 2) (by decide) eX24_init_477 ?_
        refine V_aload1 eX24_init_478 (zrf_rf _) ?_
        refine V_iload2 eX24_init_479 ?_
        refine D_callR (pc' := 483) (st := [.int (2 : Int32), va_rf n74, va_rf n74, .int a2, va_rf v73]) H (fun v h' c1 s1 e cb sb k => ?_) (fun v79 h c s H => ?_)
        · obtain ⟨a, hr, ha, hk, e9⟩ := zv1_ok e
          cases hr
          exact V_invokevirtualN (k := 0) eX24_init_480 lmX0_schemeAt q1678 q804 rfl rfl qs21 ha hk (c_X0_schemeAt e9) (hRet_oR _ _) rfl rfl rfl (by simp only [List.map_cons, List.map_nil, zcr]; rfl) (kOR k)
        refine D_gI eX24_init_483 fq_X24_195_tI H (fun v80 H => ?_)
        refine V_i2l eX24_init_486 ?_
        refine D_lastore eX24_init_487 H (fun h H => ?_)
        refine D_aastore eX24_init_488 H (fun h H => ?_)
        exact V_fg2 (b_X24_init_489 hk353 H) (zfg_k (zfg_k (zfg_k zfg_e)))
    · have H := zif_f (zsn q) H
      refine V_aload0 eX24_init_390 (zrf_rf _) ?_
      refine D_gR eX24_init_391 fq_X24_137_tR H (fun v81 H => ?_)
      refine V_iload2 eX24_init_394 ?_
      refine V_iconst (v := 3) (by decide) eX24_init_395 ?_
      refine D_newarray (g := 32) (κ := 150) (cT := 1) eX24_init_396 rfl rfl rfl q586 rfl (by decide) H (fun n82 h c s H => ?_)
      refine V_dup (zcr _) eX24_init_398 ?_
      refine V_iconst (v := 0) (by decide) eX24_init_399 ?_
      refine V_aload1 eX24_init_400 (zrf_rf _) ?_
      refine V_iload2 eX24_init_401 ?_
      refine D_callR (pc' := 405) (st := [.int (0 : Int32), va_rf n82, va_rf n82, .int a2, va_rf v81]) H (fun v h' c1 s1 e cb sb k => ?_) (fun v83 h c s H => ?_)
      · obtain ⟨a, hr, ha, hk, e9⟩ := zv1_ok e
        cases hr
        exact V_invokevirtualN (k := 0) eX24_init_402 lmX0_billAt q1677 q1062 rfl rfl qs33 ha hk (c_X0_billAt e9) (hRet_oR _ _) rfl rfl rfl (by simp only [List.map_cons, List.map_nil, zcr]; rfl) (kOR k)
      refine D_gI eX24_init_405 fq_X24_174_tI H (fun v84 H => ?_)
      refine V_i2l eX24_init_408 ?_
      refine D_lastore eX24_init_409 H (fun h H => ?_)
      refine V_dup (zcr _) eX24_init_410 ?_
      refine V_iconst (v := 1) (by decide) eX24_init_411 ?_
      refine V_aload1 eX24_init_412 (zrf_rf _) ?_
      refine V_iload2 eX24_init_413 ?_
      refine D_callR (pc' := 417) (st := [.int (1 : Int32), va_rf n82, va_rf n82, .int a2, va_rf v81]) H (fun v h' c1 s1 e cb sb k => ?_) (fun v85 h c s H => ?_)
      · obtain ⟨a, hr, ha, hk, e9⟩ := zv1_ok e
        cases hr
        exact V_invokevirtualN (k := 0) eX24_init_414 lmX0_billAt q1677 q1062 rfl rfl qs33 ha hk (c_X0_billAt e9) (hRet_oR _ _) rfl rfl rfl (by simp only [List.map_cons, List.map_nil, zcr]; rfl) (kOR k)
      refine D_gI eX24_init_417 fq_X24_177_tI H (fun v86 H => ?_)
      refine V_i2l eX24_init_420 ?_
      refine D_lastore eX24_init_421 H (fun h H => ?_)
      refine V_dup (zcr _) eX24_init_422 ?_
      refine V_iconst (v := 2) (by decide) eX24_init_423 ?_
      refine V_aload1 eX24_init_424 (zrf_rf _) ?_
      refine V_iload2 eX24_init_425 ?_
      refine D_callR (pc' := 429) (st := [.int (2 : Int32), va_rf n82, va_rf n82, .int a2, va_rf v81]) H (fun v h' c1 s1 e cb sb k => ?_) (fun v87 h c s H => ?_)
      · obtain ⟨a, hr, ha, hk, e9⟩ := zv1_ok e
        cases hr
        exact V_invokevirtualN (k := 0) eX24_init_426 lmX0_billAt q1677 q1062 rfl rfl qs33 ha hk (c_X0_billAt e9) (hRet_oR _ _) rfl rfl rfl (by simp only [List.map_cons, List.map_nil, zcr]; rfl) (kOR k)
      refine D_gL eX24_init_429 fq_X24_180_tL H (fun v88 H => ?_)
      refine D_lastore eX24_init_432 H (fun h H => ?_)
      refine D_aastore eX24_init_433 H (fun h H => ?_)
      refine V_goto eX24_init_434 ?_
      exact V_fg2 (b_X24_init_489 hk353 H) (zfg_k (zfg_k (zfg_k zfg_e)))
theorem b_X24_init_353 {w : Wd} {F : Nat} {x : Nat} {a1 : Option Nat} : ∀ (n : Nat) (a2 : Int32) (h : Hp) (y : Unit) (h1 : Hp) (c s : Nat), d_X24_init_353 w F x a1 n a2 h = some (y, h1, c, s) → V w mX24_init cX24_init 5 c s h 353 [some (va_rf (some x)), some (va_rf a1), some (.int a2)] [] (Ro (oU y) h1) := by
  intro n
  induction n with
  | zero => intro a2 h y h1 c s H; exact zno_no H
  | succ n ih => intro a2 h y h1 c s H; exact bB_X24_init_353 ih H
theorem bB_X24_init_316 {w : Wd} {F : Nat} {k316 : Int32 → M Unit} {x : Nat} {a1 : Option Nat} (hk316 : ∀ (a2 : Int32) (h : Hp) (y : Unit) (h1 : Hp) (c s : Nat), k316 a2 h = some (y, h1, c, s) → V w mX24_init cX24_init 5 c s h 316 [some (va_rf (some x)), some (va_rf a1), some (.int a2)] [] (Ro (oU y) h1)) {a2 : Int32} {h h1 : Hp} {y : Unit} {c s : Nat} (H : B_X24_init_316 w F k316 x a1 a2 h = some (y, h1, c, s)) : V w mX24_init cX24_init 5 c s h 316 [some (va_rf (some x)), some (va_rf a1), some (.int a2)] [] (Ro (oU y) h1) := by
  unfold B_X24_init_316 at H
  refine V_iload2 eX24_init_316 ?_
  refine V_aload0 eX24_init_317 (zrf_rf _) ?_
  refine D_gR eX24_init_318 fq_X24_134_tR H (fun v63 H => ?_)
  refine D_arraylength eX24_init_321 H (fun v64 H => ?_)
  refine V_if_icmpge eX24_init_322 (fun q => ?_) (fun q => ?_)
  · have H := zif_t q H
    refine V_iconst (v := 0) (by decide) eX24_init_351 ?_
    refine V_istore2 (znl_rf _) eX24_init_352 rfl ?_
    exact V_fg2 (b_X24_init_353 _ _ _ _ _ _ _ H) (zfg_k (zfg_k (zfg_k zfg_e)))
  · have H := zif_f q H
    refine V_aload0 eX24_init_325 (zrf_rf _) ?_
    refine D_gR eX24_init_326 fq_X24_134_tR H (fun v65 H => ?_)
    refine V_iload2 eX24_init_329 ?_
    refine V_aload1 eX24_init_330 (zrf_rf _) ?_
    refine D_gR eX24_init_331 fq_X24_125_tR H (fun v66 H => ?_)
    refine V_iload2 eX24_init_334 ?_
    refine D_callR (pc' := 338) (st := [.int a2, va_rf v65]) H (fun v h' c1 s1 e cb sb k => ?_) (fun v67 h c s H => ?_)
    · obtain ⟨a, hr, ha, hk, e9⟩ := zv1_ok e
      cases hr
      exact V_invokevirtual (k := 30) eX24_init_335 lmJ2_get q1673 q161 rfl rfl q162 ha hk (c_J2_get e9) (hRet_oR _ _) rfl rfl rfl (by simp only [List.map_cons, List.map_nil, zcr]; rfl) (kOR k)
    refine D_cast eX24_init_338 q1674 y_X20_ok H (fun H => ?_)
    refine D_gI eX24_init_341 fq_X24_161_tI H (fun v68 H => ?_)
    refine D_iastore eX24_init_344 H (fun h H => ?_)
    refine V_iinc2 (znl_rf _) eX24_init_345 rfl (v := 1) (by decide) ?_
    refine V_goto eX24_init_348 ?_
    exact V_fg2 (hk316 _ _ _ _ _ _ H) (zfg_k (zfg_k (zfg_k zfg_e)))
theorem b_X24_init_316 {w : Wd} {F : Nat} {x : Nat} {a1 : Option Nat} : ∀ (n : Nat) (a2 : Int32) (h : Hp) (y : Unit) (h1 : Hp) (c s : Nat), d_X24_init_316 w F x a1 n a2 h = some (y, h1, c, s) → V w mX24_init cX24_init 5 c s h 316 [some (va_rf (some x)), some (va_rf a1), some (.int a2)] [] (Ro (oU y) h1) := by
  intro n
  induction n with
  | zero => intro a2 h y h1 c s H; exact zno_no H
  | succ n ih => intro a2 h y h1 c s H; exact bB_X24_init_316 ih H
theorem c_X24_init {w : Wd} {F : Nat} {x : Nat} {a1 : Option Nat} {h h1 : Hp} {y : Unit} {c s : Nat} (H : o_X24_init w F x a1 h = some (y, h1, c, s)) : Con w mX24_init cX24_init 5 c s [.ref x, va_rf a1] h (Ro (oU y) h1) := by
  unfold o_X24_init at H
  refine Con.of (ls := [some (va_rf (some x)), some (va_rf a1), none]) (by decide +kernel) (by simp only [zsl_r, zsl_i, zsl_l, zsl_n, zsl_a]; rfl) (by simp only [zar_r, zar_i, zar_l, zar_n, zar_a]; rfl) ?_
  refine V_aload0 eX24_init_0 (zrf_rf _) ?_
  refine V_aload1 eX24_init_1 (zrf_rf _) ?_
  refine D_pR eX24_init_2 fq_X24_3_tR fn_X24_init_3 H (fun h H => ?_)
  refine V_aload0 eX24_init_5 (zrf_rf _) ?_
  refine V_objectinit eX24_init_6 q1628 q180 q181 rfl rfl ?_
  refine V_aload0 eX24_init_9 (zrf_rf _) ?_
  refine V_aload0 eX24_init_10 (zrf_rf _) ?_
  refine D_gR eX24_init_11 fq_X24_3_tR H (fun v2 H => ?_)
  refine D_gR eX24_init_14 fq_X24_15_tR H (fun v3 H => ?_)
  refine D_clone (cT := 0) (g := 21) eX24_init_17 rfl (by decide +kernel) q1629 q1630 q1631 q1632 q1633 q1634 rfl (by simp only [List.map_cons, List.map_nil, zcr]; rfl) H (fun n4 h c s H => ?_)
  refine D_castA (cT := 0) eX24_init_20 q1635 (by decide +kernel) H (fun H => ?_)
  refine D_pR eX24_init_23 fq_X24_24_tR fn_X24_init_24 H (fun h H => ?_)
  refine V_aload0 eX24_init_26 (zrf_rf _) ?_
  refine V_aload0 eX24_init_27 (zrf_rf _) ?_
  refine D_gR eX24_init_28 fq_X24_3_tR H (fun v5 H => ?_)
  refine D_gR eX24_init_31 fq_X24_27_tR H (fun v6 H => ?_)
  refine D_clone (cT := 0) (g := 22) eX24_init_34 rfl (by decide +kernel) q1629 q1630 q1631 q1632 q1633 q1634 rfl (by simp only [List.map_cons, List.map_nil, zcr]; rfl) H (fun n7 h c s H => ?_)
  refine D_castA (cT := 0) eX24_init_37 q1635 (by decide +kernel) H (fun H => ?_)
  refine D_pR eX24_init_40 fq_X24_30_tR fn_X24_init_30 H (fun h H => ?_)
  refine V_aload0 eX24_init_43 (zrf_rf _) ?_
  refine V_aload0 eX24_init_44 (zrf_rf _) ?_
  refine D_gR eX24_init_45 fq_X24_3_tR H (fun v8 H => ?_)
  refine D_gR eX24_init_48 fq_X24_33_tR H (fun v9 H => ?_)
  refine D_clone (cT := 0) (g := 23) eX24_init_51 rfl (by decide +kernel) q1629 q1630 q1631 q1632 q1633 q1634 rfl (by simp only [List.map_cons, List.map_nil, zcr]; rfl) H (fun n10 h c s H => ?_)
  refine D_castA (cT := 0) eX24_init_54 q1635 (by decide +kernel) H (fun H => ?_)
  refine D_pR eX24_init_57 fq_X24_36_tR fn_X24_init_36 H (fun h H => ?_)
  refine V_aload0 eX24_init_60 (zrf_rf _) ?_
  refine V_aload0 eX24_init_61 (zrf_rf _) ?_
  refine D_gR eX24_init_62 fq_X24_3_tR H (fun v11 H => ?_)
  refine D_gR eX24_init_65 fq_X24_39_tR H (fun v12 H => ?_)
  refine D_clone (cT := 0) (g := 24) eX24_init_68 rfl (by decide +kernel) q1629 q1630 q1631 q1632 q1633 q1634 rfl (by simp only [List.map_cons, List.map_nil, zcr]; rfl) H (fun n13 h c s H => ?_)
  refine D_castA (cT := 0) eX24_init_71 q1635 (by decide +kernel) H (fun H => ?_)
  refine D_pR eX24_init_74 fq_X24_42_tR fn_X24_init_42 H (fun h H => ?_)
  refine V_aload0 eX24_init_77 (zrf_rf _) ?_
  refine V_aload0 eX24_init_78 (zrf_rf _) ?_
  refine D_gR eX24_init_79 fq_X24_3_tR H (fun v14 H => ?_)
  refine D_gR eX24_init_82 fq_X24_45_tR H (fun v15 H => ?_)
  refine D_clone (cT := 1) (g := 25) eX24_init_85 rfl (by decide +kernel) q1636 q1637 q1631 q1632 q1638 q1639 rfl (by simp only [List.map_cons, List.map_nil, zcr]; rfl) H (fun n16 h c s H => ?_)
  refine D_castA (cT := 1) eX24_init_88 q1640 (by decide +kernel) H (fun H => ?_)
  refine D_pR eX24_init_91 fq_X24_51_tR fn_X24_init_51 H (fun h H => ?_)
  refine V_aload0 eX24_init_94 (zrf_rf _) ?_
  refine V_aload0 eX24_init_95 (zrf_rf _) ?_
  refine D_gR eX24_init_96 fq_X24_3_tR H (fun v17 H => ?_)
  refine D_gR eX24_init_99 fq_X24_54_tR H (fun v18 H => ?_)
  refine D_clone (cT := 2) (g := 26) eX24_init_102 rfl (by decide +kernel) q1641 q1642 q1631 q1632 q1643 q1644 rfl (by simp only [List.map_cons, List.map_nil, zcr]; rfl) H (fun n19 h c s H => ?_)
  refine D_castA (cT := 2) eX24_init_105 q1645 (by decide +kernel) H (fun H => ?_)
  refine D_pR eX24_init_108 fq_X24_60_tR fn_X24_init_60 H (fun h H => ?_)
  refine V_aload0 eX24_init_111 (zrf_rf _) ?_
  refine V_aload0 eX24_init_112 (zrf_rf _) ?_
  refine D_gR eX24_init_113 fq_X24_3_tR H (fun v20 H => ?_)
  refine D_gI eX24_init_116 fq_X24_63_tI H (fun v21 H => ?_)
  refine D_pI eX24_init_119 fq_X24_67_tN fn_X24_init_67 H (fun h H => ?_)
  refine V_aload0 eX24_init_122 (zrf_rf _) ?_
  refine V_aload0 eX24_init_123 (zrf_rf _) ?_
  refine D_gR eX24_init_124 fq_X24_3_tR H (fun v22 H => ?_)
  refine D_gI eX24_init_127 fq_X24_70_tI H (fun v23 H => ?_)
  refine D_pI eX24_init_130 fq_X24_73_tN fn_X24_init_73 H (fun h H => ?_)
  refine V_aload0 eX24_init_133 (zrf_rf _) ?_
  refine V_aload0 eX24_init_134 (zrf_rf _) ?_
  refine D_gR eX24_init_135 fq_X24_3_tR H (fun v24 H => ?_)
  refine D_gI eX24_init_138 fq_X24_76_tI H (fun v25 H => ?_)
  refine D_pI eX24_init_141 fq_X24_79_tN fn_X24_init_79 H (fun h H => ?_)
  refine V_aload0 eX24_init_144 (zrf_rf _) ?_
  refine V_aload0 eX24_init_145 (zrf_rf _) ?_
  refine D_gR eX24_init_146 fq_X24_3_tR H (fun v26 H => ?_)
  refine D_gI eX24_init_149 fq_X24_82_tI H (fun v27 H => ?_)
  refine D_pI eX24_init_152 fq_X24_85_tN fn_X24_init_85 H (fun h H => ?_)
  refine V_aload0 eX24_init_155 (zrf_rf _) ?_
  refine V_aload0 eX24_init_156 (zrf_rf _) ?_
  refine D_gR eX24_init_157 fq_X24_3_tR H (fun v28 H => ?_)
  refine D_gI eX24_init_160 fq_X24_88_tI H (fun v29 H => ?_)
  refine D_pI eX24_init_163 fq_X24_91_tN fn_X24_init_91 H (fun h H => ?_)
  refine V_aload0 eX24_init_166 (zrf_rf _) ?_
  refine V_aload0 eX24_init_167 (zrf_rf _) ?_
  refine D_gR eX24_init_168 fq_X24_3_tR H (fun v30 H => ?_)
  refine D_gR eX24_init_171 fq_X24_94_tR H (fun v31 H => ?_)
  refine D_callI (pc' := 177) (st := [va_rf (some x)]) H (fun v h' c1 s1 e cb sb k => ?_) (fun v32 h c s H => ?_)
  · obtain ⟨a, hr, ha, hk, e9⟩ := zv1_ok e
    cases hr
    exact V_invokevirtual (k := 30) eX24_init_174 lmJ2_size q1646 q157 rfl rfl q158 ha hk (c_J2_size e9) (hRet_oI _ _) rfl rfl rfl (by simp only [List.map_cons, List.map_nil, zcr]; rfl) (kOI k)
  refine D_pI eX24_init_177 fq_X24_104_tN fn_X24_init_104 H (fun h H => ?_)
  refine V_aload0 eX24_init_180 (zrf_rf _) ?_
  refine V_aload0 eX24_init_181 (zrf_rf _) ?_
  refine D_gR eX24_init_182 fq_X24_3_tR H (fun v33 H => ?_)
  refine D_gR eX24_init_185 fq_X24_107_tR H (fun v34 H => ?_)
  refine D_callI (pc' := 191) (st := [va_rf (some x)]) H (fun v h' c1 s1 e cb sb k => ?_) (fun v35 h c s H => ?_)
  · obtain ⟨a, hr, ha, hk, e9⟩ := zv1_ok e
    cases hr
    exact V_invokevirtual (k := 30) eX24_init_188 lmJ2_size q1646 q157 rfl rfl q158 ha hk (c_J2_size e9) (hRet_oI _ _) rfl rfl rfl (by simp only [List.map_cons, List.map_nil, zcr]; rfl) (kOI k)
  refine D_pI eX24_init_191 fq_X24_110_tN fn_X24_init_110 H (fun h H => ?_)
  refine V_aload0 eX24_init_194 (zrf_rf _) ?_
  refine V_aload0 eX24_init_195 (zrf_rf _) ?_
  refine D_gR eX24_init_196 fq_X24_3_tR H (fun v36 H => ?_)
  refine D_gR eX24_init_199 fq_X24_113_tR H (fun v37 H => ?_)
  refine D_callI (pc' := 205) (st := [va_rf (some x)]) H (fun v h' c1 s1 e cb sb k => ?_) (fun v38 h c s H => ?_)
  · obtain ⟨a, hr, ha, hk, e9⟩ := zv1_ok e
    cases hr
    exact V_invokevirtual (k := 30) eX24_init_202 lmJ2_size q1646 q157 rfl rfl q158 ha hk (c_J2_size e9) (hRet_oI _ _) rfl rfl rfl (by simp only [List.map_cons, List.map_nil, zcr]; rfl) (kOI k)
  refine D_pI eX24_init_205 fq_X24_116_tN fn_X24_init_116 H (fun h H => ?_)
  refine V_aload0 eX24_init_208 (zrf_rf _) ?_
  refine V_aload0 eX24_init_209 (zrf_rf _) ?_
  refine D_gR eX24_init_210 fq_X24_3_tR H (fun v39 H => ?_)
  refine D_gR eX24_init_213 fq_X24_119_tR H (fun v40 H => ?_)
  refine D_callI (pc' := 219) (st := [va_rf (some x)]) H (fun v h' c1 s1 e cb sb k => ?_) (fun v41 h c s H => ?_)
  · obtain ⟨a, hr, ha, hk, e9⟩ := zv1_ok e
    cases hr
    exact V_invokevirtual (k := 30) eX24_init_216 lmJ2_size q1646 q157 rfl rfl q158 ha hk (c_J2_size e9) (hRet_oI _ _) rfl rfl rfl (by simp only [List.map_cons, List.map_nil, zcr]; rfl) (kOI k)
  refine D_pI eX24_init_219 fq_X24_122_tN fn_X24_init_122 H (fun h H => ?_)
  refine V_aload0 eX24_init_222 (zrf_rf _) ?_
  refine D_new (g := 7) eX24_init_223 nl_X24_99 rfl H (fun n42 h c s H => ?_)
  refine V_dup (zcr _) eX24_init_226 ?_
  refine V_aload0 eX24_init_227 (zrf_rf _) ?_
  refine D_gR eX24_init_228 fq_X24_3_tR H (fun v43 H => ?_)
  refine D_gR eX24_init_231 fq_X24_125_tR H (fun v44 H => ?_)
  refine D_callU (pc' := 237) (st := [va_rf n42, va_rf (some x)]) H (fun v h' c1 s1 e cb sb k => ?_) (fun v45 h c s H => ?_)
  · obtain ⟨a, hr, e9⟩ := znn_ok e
    cases hr
    exact V_invokeinit eX24_init_234 lmJ2_init_2 rfl rfl q1648 q1649 (c_J2_init_2 e9) (hRet_oU _ _) rfl rfl rfl (by simp only [List.map_cons, List.map_nil, zcr]; rfl) (kOU k)
  refine D_pR eX24_init_237 fq_X24_131_tR fn_X24_init_131 H (fun h H => ?_)
  refine V_aload0 eX24_init_240 (zrf_rf _) ?_
  refine V_aload0 eX24_init_241 (zrf_rf _) ?_
  refine D_gR eX24_init_242 fq_X24_3_tR H (fun v46 H => ?_)
  refine D_gR eX24_init_245 fq_X24_125_tR H (fun v47 H => ?_)
  refine D_callI (pc' := 251) (st := [va_rf (some x)]) H (fun v h' c1 s1 e cb sb k => ?_) (fun v48 h c s H => ?_)
  · obtain ⟨a, hr, ha, hk, e9⟩ := zv1_ok e
    cases hr
    exact V_invokevirtual (k := 30) eX24_init_248 lmJ2_size q1646 q157 rfl rfl q158 ha hk (c_J2_size e9) (hRet_oI _ _) rfl rfl rfl (by simp only [List.map_cons, List.map_nil, zcr]; rfl) (kOI k)
  refine D_newarray (g := 27) (κ := 100) (cT := 0) eX24_init_251 rfl rfl rfl q585 rfl (by decide) H (fun n49 h c s H => ?_)
  refine D_pR eX24_init_253 fq_X24_134_tR fn_X24_init_134 H (fun h H => ?_)
  refine V_aload0 eX24_init_256 (zrf_rf _) ?_
  refine V_aload0 eX24_init_257 (zrf_rf _) ?_
  refine D_gR eX24_init_258 fq_X24_3_tR H (fun v50 H => ?_)
  refine D_gR eX24_init_261 fq_X24_119_tR H (fun v51 H => ?_)
  refine D_callI (pc' := 267) (st := [va_rf (some x)]) H (fun v h' c1 s1 e cb sb k => ?_) (fun v52 h c s H => ?_)
  · obtain ⟨a, hr, ha, hk, e9⟩ := zv1_ok e
    cases hr
    exact V_invokevirtual (k := 30) eX24_init_264 lmJ2_size q1646 q157 rfl rfl q158 ha hk (c_J2_size e9) (hRet_oI _ _) rfl rfl rfl (by simp only [List.map_cons, List.map_nil, zcr]; rfl) (kOI k)
  refine D_anewarray (g := 28) (κ := 550) (cT := 9) eX24_init_267 rfl rfl (Or.inr ⟨_, rfl, q1640⟩) q1496 H (fun n53 h c s H => ?_)
  refine D_pR eX24_init_270 fq_X24_137_tR fn_X24_init_137 H (fun h H => ?_)
  refine V_aload0 eX24_init_273 (zrf_rf _) ?_
  refine V_aload0 eX24_init_274 (zrf_rf _) ?_
  refine D_gR eX24_init_275 fq_X24_3_tR H (fun v54 H => ?_)
  refine D_gR eX24_init_278 fq_X24_119_tR H (fun v55 H => ?_)
  refine D_callI (pc' := 284) (st := [va_rf (some x)]) H (fun v h' c1 s1 e cb sb k => ?_) (fun v56 h c s H => ?_)
  · obtain ⟨a, hr, ha, hk, e9⟩ := zv1_ok e
    cases hr
    exact V_invokevirtual (k := 30) eX24_init_281 lmJ2_size q1646 q157 rfl rfl q158 ha hk (c_J2_size e9) (hRet_oI _ _) rfl rfl rfl (by simp only [List.map_cons, List.map_nil, zcr]; rfl) (kOI k)
  refine D_newarray (g := 29) (κ := 350) (cT := 5) eX24_init_284 rfl rfl rfl q1700 rfl (by decide) H (fun n57 h c s H => ?_)
  refine D_pR eX24_init_286 fq_X24_141_tR fn_X24_init_141 H (fun h H => ?_)
  refine V_aload0 eX24_init_289 (zrf_rf _) ?_
  refine V_iconst (v := 4) (by decide) eX24_init_290 ?_
  refine D_anewarray (g := 30) (κ := 450) (cT := 7) eX24_init_291 rfl rfl (Or.inl ⟨_, rfl, q1672⟩) q592 H (fun n58 h c s H => ?_)
  refine D_pR eX24_init_294 fq_X24_147_tR fn_X24_init_147 H (fun h H => ?_)
  refine V_aload0 eX24_init_297 (zrf_rf _) ?_
  refine V_aload0 eX24_init_298 (zrf_rf _) ?_
  refine D_gR eX24_init_299 fq_X24_3_tR H (fun v59 H => ?_)
  refine D_gR eX24_init_302 fq_X24_119_tR H (fun v60 H => ?_)
  refine D_callI (pc' := 308) (st := [va_rf (some x)]) H (fun v h' c1 s1 e cb sb k => ?_) (fun v61 h c s H => ?_)
  · obtain ⟨a, hr, ha, hk, e9⟩ := zv1_ok e
    cases hr
    exact V_invokevirtual (k := 30) eX24_init_305 lmJ2_size q1646 q157 rfl rfl q158 ha hk (c_J2_size e9) (hRet_oI _ _) rfl rfl rfl (by simp only [List.map_cons, List.map_nil, zcr]; rfl) (kOI k)
  refine D_anewarray (g := 31) (κ := 500) (cT := 8) eX24_init_308 rfl rfl (Or.inr ⟨_, rfl, q1635⟩) q590 H (fun n62 h c s H => ?_)
  refine D_pR eX24_init_311 fq_X24_151_tR fn_X24_init_151 H (fun h H => ?_)
  refine V_iconst (v := 0) (by decide) eX24_init_314 ?_
  refine V_istore2 (znl_rf _) eX24_init_315 rfl ?_
  exact V_fg2 (b_X24_init_316 _ _ _ _ _ _ _ H) (zfg_k (zfg_k (zfg_k zfg_e)))
def f_X0_image : Nat → Option Nat := fun k => match k with
  | 0 => some 25
  | _ => none
theorem fq_X0_545_tR : FQ RX0 545 f_X0_image tR := by
  intro k j e
  unfold f_X0_image at e
  split at e
  · cases e; exact ⟨fl_X0_545_0, Or.inl ⟨_, rfl⟩⟩
  · cases e
theorem fn_X0_image_545 : FN mX0_image 545 f_X0_image := by
  intro k j e
  unfold f_X0_image at e
  split at e
  · cases e; exact Or.inl rfl
  · cases e
def o_X0_image (w : Wd) (F : Nat) (x : Nat) : M Int32 :=
  zbd (znw 24 0 22) fun n1 =>
  zbd (znn n1 (fun a => o_X24_init w F a (some x))) fun _ =>
  zbd (zpR f_X0_image (some x) n1) fun _ =>
  zbd (zgI f_X0_today (some x)) fun v3 =>
  zrt v3
theorem c_X0_image {w : Wd} {F : Nat} {x : Nat} {h h1 : Hp} {y : Int32} {c s : Nat} (H : o_X0_image w F x h = some (y, h1, c, s)) : Con w mX0_image cX0_image 6 c s [.ref x] h (Ro (oI y) h1) := by
  unfold o_X0_image at H
  refine Con.of (ls := [some (va_rf (some x))]) (by decide +kernel) rfl rfl ?_
  refine V_aload0 eX0_image_0 (zrf_rf _) ?_
  refine D_new (g := 0) eX0_image_1 nl_X0_542 rfl H (fun n1 h c s H => ?_)
  refine V_dup (zcr _) eX0_image_4 ?_
  refine V_aload0 eX0_image_5 (zrf_rf _) ?_
  refine D_callU (pc' := 9) (st := [va_rf n1, va_rf (some x)]) H (fun v h' c1 s1 e cb sb k => ?_) (fun v2 h c s H => ?_)
  · obtain ⟨a, hr, e9⟩ := znn_ok e
    cases hr
    exact V_invokeinit eX0_image_6 lmX24_init rfl rfl q1625 q1626 (c_X24_init e9) (hRet_oU _ _) rfl rfl rfl (by simp only [List.map_cons, List.map_nil, zcr]; rfl) (kOU k)
  refine D_pR eX0_image_9 fq_X0_545_tR fn_X0_image_545 H (fun h H => ?_)
  refine V_aload0 eX0_image_12 (zrf_rf _) ?_
  refine D_gI eX0_image_13 fq_X0_194_tI H (fun v3 H => ?_)
  obtain ⟨rfl, rfl, rfl, rfl⟩ := zrt_ok H
  exact V_ireturn eX0_image_16 rfl ⟨rfl, rfl⟩
def B_X24_cut_0 (w : Wd) (F : Nat) (k0 : M Unit) (a1 : Option Nat) (a2 : Int32) : M Unit :=
  zbd (zv1 30 a1 (fun a => o_J2_size w F a)) fun v1 =>
  zif (v1 ≤ a2) (zrt ())
  (zbd (zv1 30 a1 (fun a => o_J2_size w F a)) fun v2 =>
  zbd (zv1 30 a1 (fun a => o_J2_remove_2 w F a (v2 - (1 : Int32)))) fun v3 =>
  k0)
def d_X24_cut_0 (w : Wd) (F : Nat) (a1 : Option Nat) (a2 : Int32) : Nat → M Unit
  | 0 => zno
  | n + 1 => B_X24_cut_0 w F (d_X24_cut_0 w F a1 a2 n) a1 a2
def o_X24_cut (w : Wd) (F : Nat) (x : Nat) (a1 : Option Nat) (a2 : Int32) : M Unit :=
  d_X24_cut_0 w F a1 a2 F
theorem bB_X24_cut_0 {w : Wd} {F : Nat} {k0 : M Unit} {a1 : Option Nat} {a2 : Int32} (hk0 : ∀ (h : Hp) (y : Unit) (h1 : Hp) (c s : Nat), k0 h = some (y, h1, c, s) → V w mX24_cut cX24_cut 3 c s h 0 [none, some (va_rf a1), some (.int a2)] [] (Ro (oU y) h1)) {h h1 : Hp} {y : Unit} {c s : Nat} (H : B_X24_cut_0 w F k0 a1 a2 h = some (y, h1, c, s)) : V w mX24_cut cX24_cut 3 c s h 0 [none, some (va_rf a1), some (.int a2)] [] (Ro (oU y) h1) := by
  unfold B_X24_cut_0 at H
  refine V_aload1 eX24_cut_0 (zrf_rf _) ?_
  refine D_callI (pc' := 4) (st := []) H (fun v h' c1 s1 e cb sb k => ?_) (fun v1 h c s H => ?_)
  · obtain ⟨a, hr, ha, hk, e9⟩ := zv1_ok e
    cases hr
    exact V_invokevirtual (k := 30) eX24_cut_1 lmJ2_size q1646 q157 rfl rfl q158 ha hk (c_J2_size e9) (hRet_oI _ _) rfl rfl rfl rfl (kOI k)
  refine V_iload2 eX24_cut_4 ?_
  refine V_if_icmple eX24_cut_5 (fun q => ?_) (fun q => ?_)
  · have H := zif_t q H
    obtain ⟨rfl, rfl, rfl, rfl⟩ := zrt_ok H
    exact V_return (x := ()) eX24_cut_22 rfl ⟨rfl, rfl⟩
  · have H := zif_f q H
    refine V_aload1 eX24_cut_8 (zrf_rf _) ?_
    refine V_aload1 eX24_cut_9 (zrf_rf _) ?_
    refine D_callI (pc' := 13) (st := [va_rf a1]) H (fun v h' c1 s1 e cb sb k => ?_) (fun v2 h c s H => ?_)
    · obtain ⟨a, hr, ha, hk, e9⟩ := zv1_ok e
      cases hr
      exact V_invokevirtual (k := 30) eX24_cut_10 lmJ2_size q1646 q157 rfl rfl q158 ha hk (c_J2_size e9) (hRet_oI _ _) rfl rfl rfl (by simp only [List.map_cons, List.map_nil, zcr]; rfl) (kOI k)
    refine V_iconst (v := 1) (by decide) eX24_cut_13 ?_
    refine V_isub eX24_cut_14 ?_
    refine D_callR (pc' := 18) (st := []) H (fun v h' c1 s1 e cb sb k => ?_) (fun v3 h c s H => ?_)
    · obtain ⟨a, hr, ha, hk, e9⟩ := zv1_ok e
      cases hr
      exact V_invokevirtual (k := 30) eX24_cut_15 lmJ2_remove_2 q1814 q1431 rfl rfl q1432 ha hk (c_J2_remove_2 e9) (hRet_oR _ _) rfl rfl rfl rfl (kOR k)
    refine V_pop (zcr _) eX24_cut_18 ?_
    refine V_goto eX24_cut_19 ?_
    exact V_fg2 (hk0 _ _ _ _ _ H) (zfg_n (zfg_k (zfg_k zfg_e)))
theorem b_X24_cut_0 {w : Wd} {F : Nat} {a1 : Option Nat} {a2 : Int32} : ∀ (n : Nat) (h : Hp) (y : Unit) (h1 : Hp) (c s : Nat), d_X24_cut_0 w F a1 a2 n h = some (y, h1, c, s) → V w mX24_cut cX24_cut 3 c s h 0 [none, some (va_rf a1), some (.int a2)] [] (Ro (oU y) h1) := by
  intro n
  induction n with
  | zero => intro  h y h1 c s H; exact zno_no H
  | succ n ih => intro  h y h1 c s H; exact bB_X24_cut_0 ih H
theorem c_X24_cut {w : Wd} {F : Nat} {x : Nat} {a1 : Option Nat} {a2 : Int32} {h h1 : Hp} {y : Unit} {c s : Nat} (H : o_X24_cut w F x a1 a2 h = some (y, h1, c, s)) : Con w mX24_cut cX24_cut 3 c s [.ref x, va_rf a1, .int a2] h (Ro (oU y) h1) := by
  unfold o_X24_cut at H
  refine Con.of (ls := [some (va_rf (some x)), some (va_rf a1), some (.int a2)]) (by decide +kernel) (by simp only [zsl_r, zsl_i, zsl_l, zsl_n, zsl_a]; rfl) (by simp only [zar_r, zar_i, zar_l, zar_n, zar_a]; rfl) ?_
  exact V_fg2 (b_X24_cut_0 _ _ _ _ _ _ H) (zfg_n (zfg_k (zfg_k zfg_e)))
theorem fq_X24_220_tZ : FQ RX24 220 f_X21_settled tZ := by
  intro k j e
  unfold f_X21_settled at e
  split at e
  · cases e; exact ⟨fl_X24_220_21, rfl⟩
  · cases e; exact ⟨fl_X24_220_22, rfl⟩
  · cases e
theorem fn_X24_paperBack_220 : FN mX24_paperBack 220 f_X21_settled := by
  intro k j e
  unfold f_X21_settled at e
  split at e
  · cases e; exact Or.inl rfl
  · cases e; exact Or.inl rfl
  · cases e
theorem fn_X24_paperBack_188 : FN mX24_paperBack 188 f_X13_coins := by
  intro k j e
  unfold f_X13_coins at e
  split at e
  · cases e; exact Or.inl rfl
  · cases e; exact Or.inl rfl
  · cases e; exact Or.inl rfl
  · cases e
theorem fq_X24_192_tN : FQ RX24 192 f_X13_price tN := by
  intro k j e
  unfold f_X13_price at e
  split at e
  · cases e; exact ⟨fl_X24_192_13, rfl⟩
  · cases e; exact ⟨fl_X24_192_15, rfl⟩
  · cases e; exact ⟨fl_X24_192_18, rfl⟩
  · cases e
theorem fn_X24_paperBack_192 : FN mX24_paperBack 192 f_X13_price := by
  intro k j e
  unfold f_X13_price at e
  split at e
  · cases e; exact Or.inl rfl
  · cases e; exact Or.inl rfl
  · cases e; exact Or.inl rfl
  · cases e
theorem fq_X24_195_tN : FQ RX24 195 f_X13_calledOn tN := by
  intro k j e
  unfold f_X13_calledOn at e
  split at e
  · cases e; exact ⟨fl_X24_195_13, rfl⟩
  · cases e; exact ⟨fl_X24_195_15, rfl⟩
  · cases e; exact ⟨fl_X24_195_18, rfl⟩
  · cases e
theorem fn_X24_paperBack_195 : FN mX24_paperBack 195 f_X13_calledOn := by
  intro k j e
  unfold f_X13_calledOn at e
  split at e
  · cases e; exact Or.inl rfl
  · cases e; exact Or.inl rfl
  · cases e; exact Or.inl rfl
  · cases e
theorem fq_X24_215_tZ : FQ RX24 215 f_X13_fallen tZ := by
  intro k j e
  unfold f_X13_fallen at e
  split at e
  · cases e; exact ⟨fl_X24_215_13, rfl⟩
  · cases e; exact ⟨fl_X24_215_15, rfl⟩
  · cases e; exact ⟨fl_X24_215_18, rfl⟩
  · cases e
theorem fn_X24_paperBack_215 : FN mX24_paperBack 215 f_X13_fallen := by
  intro k j e
  unfold f_X13_fallen at e
  split at e
  · cases e; exact Or.inl rfl
  · cases e; exact Or.inl rfl
  · cases e; exact Or.inl rfl
  · cases e
theorem fn_X24_paperBack_198 : FN mX24_paperBack 198 f_X13_held := by
  intro k j e
  unfold f_X13_held at e
  split at e
  · cases e; exact Or.inl rfl
  · cases e; exact Or.inl rfl
  · cases e; exact Or.inl rfl
  · cases e
theorem fq_X24_174_tN : FQ RX24 174 f_X18_left tN := by
  intro k j e
  unfold f_X18_left at e
  split at e
  · cases e; exact ⟨fl_X24_174_18, rfl⟩
  · cases e
theorem fn_X24_paperBack_174 : FN mX24_paperBack 174 f_X18_left := by
  intro k j e
  unfold f_X18_left at e
  split at e
  · cases e; exact Or.inl rfl
  · cases e
theorem fq_X24_177_tN : FQ RX24 177 f_X18_doneOn tN := by
  intro k j e
  unfold f_X18_doneOn at e
  split at e
  · cases e; exact ⟨fl_X24_177_18, rfl⟩
  · cases e
theorem fn_X24_paperBack_177 : FN mX24_paperBack 177 f_X18_doneOn := by
  intro k j e
  unfold f_X18_doneOn at e
  split at e
  · cases e; exact Or.inl rfl
  · cases e
theorem fn_X24_paperBack_180 : FN mX24_paperBack 180 f_X18_barred := by
  intro k j e
  unfold f_X18_barred at e
  split at e
  · cases e; exact Or.inl rfl
  · cases e
theorem fq_X24_211_tZ : FQ RX24 211 f_X18_granted tZ := by
  intro k j e
  unfold f_X18_granted at e
  split at e
  · cases e; exact ⟨fl_X24_211_18, rfl⟩
  · cases e
theorem fn_X24_paperBack_211 : FN mX24_paperBack 211 f_X18_granted := by
  intro k j e
  unfold f_X18_granted at e
  split at e
  · cases e; exact Or.inl rfl
  · cases e
def d_X24_paperBack_208 (w : Wd) (F : Nat) : M Unit :=
  zrt ()
def o_X24_paperBack (w : Wd) (F : Nat) (x : Nat) (a1 : Int32) : M Unit :=
  zbd (zgR f_X24_this_0 (some x)) fun v1 =>
  zbd (zgR f_X0_papers v1) fun v2 =>
  zbd (zv1 30 v2 (fun a => o_J2_get w F a a1)) fun v3 =>
  zbd (zio y_X18 n_X18 v3) fun v4 =>
  zif (v4 = 0) (zbd (zgR f_X24_this_0 (some x)) fun v5 =>
  zbd (zv1 0 v5 (fun a => o_X0_schemeAt w F a a1)) fun v6 =>
  zif (v6 = none) (zbd (zgR f_X24_this_0 (some x)) fun v7 =>
  zbd (zgR f_X0_papers v7) fun v8 =>
  zbd (zv1 30 v8 (fun a => o_J2_get w F a a1)) fun v9 =>
  zbd (zio y_X21 n_X21 v9) fun v10 =>
  zif (v10 = 0) (d_X24_paperBack_208 w F)
  (zbd (zcc y_X21 v9) fun _ =>
  zbd (zgR f_X24_done (some x)) fun v11 =>
  zbd (zaI 5 v11 a1) fun v12 =>
  zbd (zpZ f_X21_settled v9 v12) fun _ =>
  d_X24_paperBack_208 w F))
  (zbd (zgR f_X24_this_0 (some x)) fun v13 =>
  zbd (zv1 0 v13 (fun a => o_X0_schemeAt w F a a1)) fun v14 =>
  zbd (zgR f_X24_of (some x)) fun v15 =>
  zbd (zaR v15 a1) fun v16 =>
  zbd (zaL v16 (0 : Int32)) fun v17 =>
  zbd (zpL f_X13_coins v14 v17) fun _ =>
  zbd (zgR f_X24_of (some x)) fun v18 =>
  zbd (zaR v18 a1) fun v19 =>
  zbd (zaL v19 (1 : Int32)) fun v20 =>
  zbd (zpI f_X13_price v14 (v20).toInt32) fun _ =>
  zbd (zgR f_X24_of (some x)) fun v21 =>
  zbd (zaR v21 a1) fun v22 =>
  zbd (zaL v22 (2 : Int32)) fun v23 =>
  zbd (zpI f_X13_calledOn v14 (v23).toInt32) fun _ =>
  zbd (zgR f_X24_done (some x)) fun v24 =>
  zbd (zaI 5 v24 a1) fun v25 =>
  zbd (zpZ f_X13_fallen v14 v25) fun _ =>
  zbd (zgR f_X24_heldWas (some x)) fun v26 =>
  zbd (zaR v26 a1) fun v27 =>
  zbd (zcln 0 (zgo v14 1) v27) fun n28 =>
  zbd (zcA 0 n28) fun _ =>
  zbd (zpR f_X13_held v14 n28) fun _ =>
  d_X24_paperBack_208 w F))
  (zbd (zcc y_X18 v3) fun _ =>
  zbd (zgR f_X24_of (some x)) fun v29 =>
  zbd (zaR v29 a1) fun v30 =>
  zbd (zaL v30 (0 : Int32)) fun v31 =>
  zbd (zpI f_X18_left v3 (v31).toInt32) fun _ =>
  zbd (zgR f_X24_of (some x)) fun v32 =>
  zbd (zaR v32 a1) fun v33 =>
  zbd (zaL v33 (1 : Int32)) fun v34 =>
  zbd (zpI f_X18_doneOn v3 (v34).toInt32) fun _ =>
  zbd (zgR f_X24_of (some x)) fun v35 =>
  zbd (zaR v35 a1) fun v36 =>
  zbd (zaL v36 (2 : Int32)) fun v37 =>
  zbd (zpL f_X18_barred v3 v37) fun _ =>
  zbd (zgR f_X24_done (some x)) fun v38 =>
  zbd (zaI 5 v38 a1) fun v39 =>
  zbd (zpZ f_X18_granted v3 v39) fun _ =>
  d_X24_paperBack_208 w F)
theorem b_X24_paperBack_208 {w : Wd} {F : Nat} {h h1 : Hp} {y : Unit} {c s : Nat} (H : d_X24_paperBack_208 w F h = some (y, h1, c, s)) : V w mX24_paperBack cX24_paperBack 5 c s h 208 [none, none, none, none, none] [] (Ro (oU y) h1) := by
  unfold d_X24_paperBack_208 at H
  obtain ⟨rfl, rfl, rfl, rfl⟩ := zrt_ok H
  exact V_return (x := ()) eX24_paperBack_208 rfl ⟨rfl, rfl⟩
theorem c_X24_paperBack {w : Wd} {F : Nat} {x : Nat} {a1 : Int32} {h h1 : Hp} {y : Unit} {c s : Nat} (H : o_X24_paperBack w F x a1 h = some (y, h1, c, s)) : Con w mX24_paperBack cX24_paperBack 5 c s [.ref x, .int a1] h (Ro (oU y) h1) := by
  unfold o_X24_paperBack at H
  refine Con.of (ls := [some (va_rf (some x)), some (.int a1), none, none, none]) (by decide +kernel) rfl rfl ?_
  refine V_aload0 eX24_paperBack_0 (zrf_rf _) ?_
  refine D_gR eX24_paperBack_1 fq_X24_3_tR H (fun v1 H => ?_)
  refine D_gR eX24_paperBack_4 fq_X24_119_tR H (fun v2 H => ?_)
  refine V_iload1 eX24_paperBack_7 ?_
  refine D_callR (pc' := 11) (st := []) H (fun v h' c1 s1 e cb sb k => ?_) (fun v3 h c s H => ?_)
  · obtain ⟨a, hr, ha, hk, e9⟩ := zv1_ok e
    cases hr
    exact V_invokevirtual (k := 30) eX24_paperBack_8 lmJ2_get q1673 q161 rfl rfl q162 ha hk (c_J2_get e9) (hRet_oR _ _) rfl rfl rfl rfl (kOR k)
  refine V_astore4 rfl eX24_paperBack_11 rfl (zrf_rf _) ?_
  refine V_aload4 eX24_paperBack_13 (zrf_rf _) ?_
  refine D_inst eX24_paperBack_15 q1819 y_X18_ok n_X18_ok H (fun v4 H => ?_)
  refine V_ifeq eX24_paperBack_18 (fun q => ?_) (fun q => ?_)
  · have H := zif_t q H
    refine V_aload0 eX24_paperBack_78 (zrf_rf _) ?_
    refine D_gR eX24_paperBack_79 fq_X24_3_tR H (fun v5 H => ?_)
    refine V_iload1 eX24_paperBack_82 ?_
    refine D_callR (pc' := 86) (st := []) H (fun v h' c1 s1 e cb sb k => ?_) (fun v6 h c s H => ?_)
    · obtain ⟨a, hr, ha, hk, e9⟩ := zv1_ok e
      cases hr
      exact V_invokevirtualN (k := 0) eX24_paperBack_83 lmX0_schemeAt q1678 q804 rfl rfl qs21 ha hk (c_X0_schemeAt e9) (hRet_oR _ _) rfl rfl rfl rfl (kOR k)
    refine V_ifnull eX24_paperBack_86 (fun q => ?_) (fun a q => ?_)
    · have H := zif_t q H
      refine V_aload0 eX24_paperBack_171 (zrf_rf _) ?_
      refine D_gR eX24_paperBack_172 fq_X24_3_tR H (fun v7 H => ?_)
      refine D_gR eX24_paperBack_175 fq_X24_119_tR H (fun v8 H => ?_)
      refine V_iload1 eX24_paperBack_178 ?_
      refine D_callR (pc' := 182) (st := []) H (fun v h' c1 s1 e cb sb k => ?_) (fun v9 h c s H => ?_)
      · obtain ⟨a, hr, ha, hk, e9⟩ := zv1_ok e
        cases hr
        exact V_invokevirtual (k := 30) eX24_paperBack_179 lmJ2_get q1673 q161 rfl rfl q162 ha hk (c_J2_get e9) (hRet_oR _ _) rfl rfl rfl rfl (kOR k)
      refine V_astore4 rfl eX24_paperBack_182 rfl (zrf_rf _) ?_
      refine V_aload4 eX24_paperBack_184 (zrf_rf _) ?_
      refine D_inst eX24_paperBack_186 q1820 y_X21_ok n_X21_ok H (fun v10 H => ?_)
      refine V_ifeq eX24_paperBack_189 (fun q => ?_) (fun q => ?_)
      · have H := zif_t q H
        exact V_fg2 (b_X24_paperBack_208 H) (zfg_n (zfg_n (zfg_n (zfg_n (zfg_n zfg_e)))))
      · have H := zif_f q H
        refine V_aload4 eX24_paperBack_192 (zrf_rf _) ?_
        refine D_cast eX24_paperBack_194 q1820 y_X21_ok H (fun H => ?_)
        refine V_astore3 rfl eX24_paperBack_197 rfl (zrf_rf _) ?_
        refine V_aload3 eX24_paperBack_198 (zrf_rf _) ?_
        refine V_aload0 eX24_paperBack_199 (zrf_rf _) ?_
        refine D_gR eX24_paperBack_200 fq_X24_141_tR H (fun v11 H => ?_)
        refine V_iload1 eX24_paperBack_203 ?_
        refine D_zaload eX24_paperBack_204 H (fun v12 H => ?_)
        refine D_pZ eX24_paperBack_205 fq_X24_220_tZ fn_X24_paperBack_220 H (fun h H => ?_)
        exact V_fg2 (b_X24_paperBack_208 H) (zfg_n (zfg_n (zfg_n (zfg_n (zfg_n zfg_e)))))
    · have H := zif_f (zsn q) H
      refine V_aload0 eX24_paperBack_89 (zrf_rf _) ?_
      refine D_gR eX24_paperBack_90 fq_X24_3_tR H (fun v13 H => ?_)
      refine V_iload1 eX24_paperBack_93 ?_
      refine D_callR (pc' := 97) (st := []) H (fun v h' c1 s1 e cb sb k => ?_) (fun v14 h c s H => ?_)
      · obtain ⟨a, hr, ha, hk, e9⟩ := zv1_ok e
        cases hr
        exact V_invokevirtualN (k := 0) eX24_paperBack_94 lmX0_schemeAt q1678 q804 rfl rfl qs21 ha hk (c_X0_schemeAt e9) (hRet_oR _ _) rfl rfl rfl rfl (kOR k)
      refine V_astore4 rfl eX24_paperBack_97 rfl (zrf_rf _) ?_
      refine V_aload4 eX24_paperBack_99 (zrf_rf _) ?_
      refine V_aload0 eX24_paperBack_101 (zrf_rf _) ?_
      refine D_gR eX24_paperBack_102 fq_X24_137_tR H (fun v15 H => ?_)
      refine V_iload1 eX24_paperBack_105 ?_
      refine D_aaload eX24_paperBack_106 H (fun v16 H => ?_)
      refine V_iconst (v := 0) (by decide) eX24_paperBack_107 ?_
      refine D_laload eX24_paperBack_108 H (fun v17 H => ?_)
      refine D_pL eX24_paperBack_109 fq_X24_188_tL fn_X24_paperBack_188 H (fun h H => ?_)
      refine V_aload4 eX24_paperBack_112 (zrf_rf _) ?_
      refine V_aload0 eX24_paperBack_114 (zrf_rf _) ?_
      refine D_gR eX24_paperBack_115 fq_X24_137_tR H (fun v18 H => ?_)
      refine V_iload1 eX24_paperBack_118 ?_
      refine D_aaload eX24_paperBack_119 H (fun v19 H => ?_)
      refine V_iconst (v := 1) (by decide) eX24_paperBack_120 ?_
      refine D_laload eX24_paperBack_121 H (fun v20 H => ?_)
      refine V_l2i eX24_paperBack_122 ?_
      refine D_pI eX24_paperBack_123 fq_X24_192_tN fn_X24_paperBack_192 H (fun h H => ?_)
      refine V_aload4 eX24_paperBack_126 (zrf_rf _) ?_
      refine V_aload0 eX24_paperBack_128 (zrf_rf _) ?_
      refine D_gR eX24_paperBack_129 fq_X24_137_tR H (fun v21 H => ?_)
      refine V_iload1 eX24_paperBack_132 ?_
      refine D_aaload eX24_paperBack_133 H (fun v22 H => ?_)
      refine V_iconst (v := 2) (by decide) eX24_paperBack_134 ?_
      refine D_laload eX24_paperBack_135 H (fun v23 H => ?_)
      refine V_l2i eX24_paperBack_136 ?_
      refine D_pI eX24_paperBack_137 fq_X24_195_tN fn_X24_paperBack_195 H (fun h H => ?_)
      refine V_aload4 eX24_paperBack_140 (zrf_rf _) ?_
      refine V_aload0 eX24_paperBack_142 (zrf_rf _) ?_
      refine D_gR eX24_paperBack_143 fq_X24_141_tR H (fun v24 H => ?_)
      refine V_iload1 eX24_paperBack_146 ?_
      refine D_zaload eX24_paperBack_147 H (fun v25 H => ?_)
      refine D_pZ eX24_paperBack_148 fq_X24_215_tZ fn_X24_paperBack_215 H (fun h H => ?_)
      refine V_aload4 eX24_paperBack_151 (zrf_rf _) ?_
      refine V_aload0 eX24_paperBack_153 (zrf_rf _) ?_
      refine D_gR eX24_paperBack_154 fq_X24_151_tR H (fun v26 H => ?_)
      refine V_iload1 eX24_paperBack_157 ?_
      refine D_aaload eX24_paperBack_158 H (fun v27 H => ?_)
      refine D_clone (cT := 0) (g := (zgo v14 1)) eX24_paperBack_159 rfl (by decide +kernel) q1629 q1630 q1631 q1632 q1633 q1634 rfl (by simp only [List.map_cons, List.map_nil, zcr]; rfl) H (fun n28 h c s H => ?_)
      refine D_castA (cT := 0) eX24_paperBack_162 q1635 (by decide +kernel) H (fun H => ?_)
      refine D_pR eX24_paperBack_165 fq_X24_198_tR fn_X24_paperBack_198 H (fun h H => ?_)
      refine V_goto eX24_paperBack_168 ?_
      exact V_fg2 (b_X24_paperBack_208 H) (zfg_n (zfg_n (zfg_n (zfg_n (zfg_n zfg_e)))))
  · have H := zif_f q H
    refine V_aload4 eX24_paperBack_21 (zrf_rf _) ?_
    refine D_cast eX24_paperBack_23 q1819 y_X18_ok H (fun H => ?_)
    refine V_astore2 rfl eX24_paperBack_26 rfl (zrf_rf _) ?_
    refine V_aload2 eX24_paperBack_27 (zrf_rf _) ?_
    refine V_aload0 eX24_paperBack_28 (zrf_rf _) ?_
    refine D_gR eX24_paperBack_29 fq_X24_137_tR H (fun v29 H => ?_)
    refine V_iload1 eX24_paperBack_32 ?_
    refine D_aaload eX24_paperBack_33 H (fun v30 H => ?_)
    refine V_iconst (v := 0) (by decide) eX24_paperBack_34 ?_
    refine D_laload eX24_paperBack_35 H (fun v31 H => ?_)
    refine V_l2i eX24_paperBack_36 ?_
    refine D_pI eX24_paperBack_37 fq_X24_174_tN fn_X24_paperBack_174 H (fun h H => ?_)
    refine V_aload2 eX24_paperBack_40 (zrf_rf _) ?_
    refine V_aload0 eX24_paperBack_41 (zrf_rf _) ?_
    refine D_gR eX24_paperBack_42 fq_X24_137_tR H (fun v32 H => ?_)
    refine V_iload1 eX24_paperBack_45 ?_
    refine D_aaload eX24_paperBack_46 H (fun v33 H => ?_)
    refine V_iconst (v := 1) (by decide) eX24_paperBack_47 ?_
    refine D_laload eX24_paperBack_48 H (fun v34 H => ?_)
    refine V_l2i eX24_paperBack_49 ?_
    refine D_pI eX24_paperBack_50 fq_X24_177_tN fn_X24_paperBack_177 H (fun h H => ?_)
    refine V_aload2 eX24_paperBack_53 (zrf_rf _) ?_
    refine V_aload0 eX24_paperBack_54 (zrf_rf _) ?_
    refine D_gR eX24_paperBack_55 fq_X24_137_tR H (fun v35 H => ?_)
    refine V_iload1 eX24_paperBack_58 ?_
    refine D_aaload eX24_paperBack_59 H (fun v36 H => ?_)
    refine V_iconst (v := 2) (by decide) eX24_paperBack_60 ?_
    refine D_laload eX24_paperBack_61 H (fun v37 H => ?_)
    refine D_pL eX24_paperBack_62 fq_X24_180_tL fn_X24_paperBack_180 H (fun h H => ?_)
    refine V_aload2 eX24_paperBack_65 (zrf_rf _) ?_
    refine V_aload0 eX24_paperBack_66 (zrf_rf _) ?_
    refine D_gR eX24_paperBack_67 fq_X24_141_tR H (fun v38 H => ?_)
    refine V_iload1 eX24_paperBack_70 ?_
    refine D_zaload eX24_paperBack_71 H (fun v39 H => ?_)
    refine D_pZ eX24_paperBack_72 fq_X24_211_tZ fn_X24_paperBack_211 H (fun h H => ?_)
    refine V_goto eX24_paperBack_75 ?_
    exact V_fg2 (b_X24_paperBack_208 H) (zfg_n (zfg_n (zfg_n (zfg_n (zfg_n zfg_e)))))
