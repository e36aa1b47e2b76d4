set_option maxRecDepth 100000
theorem fn_X15_init_9 : FN mX15_init 9 f_X15_way := by
  intro k j e
  unfold f_X15_way at e
  split at e
  · cases e; exact Or.inr ⟨rfl, rfl, rfl, _, q835, rfl⟩
  · cases e
theorem fq_X15_15_tR : FQ RX15 15 f_X15_levels tR := by
  intro k j e
  unfold f_X15_levels at e
  split at e
  · cases e; exact ⟨fl_X15_15_15, Or.inr ⟨_, rfl⟩⟩
  · cases e
theorem fn_X15_init_15 : FN mX15_init 15 f_X15_levels := by
  intro k j e
  unfold f_X15_levels at e
  split at e
  · cases e; exact Or.inr ⟨rfl, rfl, rfl, _, q837, rfl⟩
  · cases e
def f_X15_torn : Nat → Option Nat := fun k => match k with
  | 15 => some 16
  | _ => none
theorem fq_X15_18_tN : FQ RX15 18 f_X15_torn tN := by
  intro k j e
  unfold f_X15_torn at e
  split at e
  · cases e; exact ⟨fl_X15_18_15, rfl⟩
  · cases e
theorem fn_X15_init_18 : FN mX15_init 18 f_X15_torn := by
  intro k j e
  unfold f_X15_torn at e
  split at e
  · cases e; exact Or.inl rfl
  · cases e
def o_X15_init (w : Wd) (F : Nat) (x : Nat) (a1 : Int32) (a2 : Int32) (a3 : Option Nat) : M Unit :=
  zbd (o_X14_init w F x a1 a2 a3) fun _ =>
  zbd (znA 100 (zgo (some x) 2) (40 : Int32)) fun n2 =>
  zbd (zpR f_X15_way (some x) n2) fun _ =>
  zbd (znA 100 (zgo (some x) 3) (40 : Int32)) fun n3 =>
  zbd (zpR f_X15_levels (some x) n3) fun _ =>
  zbd (zpI f_X15_torn (some x) (-5 : Int32)) fun _ =>
  zrt ()
theorem c_X15_init {w : Wd} {F : Nat} {x : Nat} {a1 : Int32} {a2 : Int32} {a3 : Option Nat} {h h1 : Hp} {y : Unit} {c s : Nat} (H : o_X15_init w F x a1 a2 a3 h = some (y, h1, c, s)) : Con w mX15_init cX15_init 4 c s [.ref x, .int a1, .int a2, va_rf a3] h (Ro (oU y) h1) := by
  unfold o_X15_init at H
  refine Con.of (ls := [some (va_rf (some x)), some (.int a1), some (.int a2), some (va_rf a3)]) (by decide +kernel) (by simp only [zsl_r, zsl_i, zsl_l, zsl_n, zsl_a]; rfl) (by simp only [zar_r, zar_i, zar_l, zar_n, zar_a]; rfl) ?_
  refine V_aload0 eX15_init_0 (zrf_rf _) ?_
  refine V_iload1 eX15_init_1 ?_
  refine V_iload2 eX15_init_2 ?_
  refine V_aload3 eX15_init_3 (zrf_rf _) ?_
  refine D_callU (pc' := 7) (st := []) H (fun v h' c1 s1 e cb sb k => ?_) (fun v1 h c s H => ?_)
  · exact V_invokeinit eX15_init_4 lmX14_init rfl rfl q831 q832 (c_X14_init e) (hRet_oU _ _) rfl rfl rfl rfl (kOU k)
  refine V_aload0 eX15_init_7 (zrf_rf _) ?_
  refine V_bipush (v := 40) (by decide) eX15_init_8 ?_
  refine D_newarray (g := (zgo (some x) 2)) (κ := 100) (cT := 0) eX15_init_10 rfl rfl rfl q585 rfl (by decide) H (fun n2 h c s H => ?_)
  refine D_pR eX15_init_12 fq_X15_9_tR fn_X15_init_9 H (fun h H => ?_)
  refine V_aload0 eX15_init_15 (zrf_rf _) ?_
  refine V_bipush (v := 40) (by decide) eX15_init_16 ?_
  refine D_newarray (g := (zgo (some x) 3)) (κ := 100) (cT := 0) eX15_init_18 rfl rfl rfl q585 rfl (by decide) H (fun n3 h c s H => ?_)
  refine D_pR eX15_init_20 fq_X15_15_tR fn_X15_init_15 H (fun h H => ?_)
  refine V_aload0 eX15_init_23 (zrf_rf _) ?_
  refine V_bipush (v := -5) (by decide) eX15_init_24 ?_
  refine D_pI eX15_init_26 fq_X15_18_tN fn_X15_init_18 H (fun h H => ?_)
  obtain ⟨rfl, rfl, rfl, rfl⟩ := zrt_ok H
  exact V_return (x := ()) eX15_init_29 rfl ⟨rfl, rfl⟩
def y_X26 : Nat → Bool := fun k => match k with
  | 26 => true
  | _ => false
theorem y_X26_ok : ∀ k, y_X26 k = true → zok k = true ∧ ((zcl k).1 = "LinesPromised$Bytes" ∨ Cond.castable (zcl k).1 "LinesPromised$Bytes" ∈ lw_tbl) := by
  intro k e
  unfold y_X26 at e
  split at e
  · exact ⟨by decide, Or.inl rfl⟩
  · cases e
def n_X26 : Nat → Bool := fun k => match k with
  | 0 => true
  | 1 => true
  | 2 => true
  | 3 => true
  | 4 => true
  | 5 => true
  | 6 => true
  | 8 => true
  | 9 => true
  | 10 => true
  | 11 => true
  | 13 => true
  | 15 => true
  | 16 => true
  | 17 => true
  | 18 => true
  | 19 => true
  | 20 => true
  | 21 => true
  | 22 => true
  | 23 => true
  | 24 => true
  | 27 => true
  | 28 => true
  | 30 => true
  | _ => false
theorem n_X26_ok : ∀ k, n_X26 k = true → zok k = true ∧ ((zcl k).1, "LinesPromised$Bytes") ∈ zNC := by
  intro k e
  unfold n_X26 at e
  split at e
  · exact ⟨by decide, by decide +kernel⟩
  · exact ⟨by decide, by decide +kernel⟩
  · exact ⟨by decide, by decide +kernel⟩
  · exact ⟨by decide, by decide +kernel⟩
  · exact ⟨by decide, by decide +kernel⟩
  · exact ⟨by decide, by decide +kernel⟩
  · exact ⟨by decide, by decide +kernel⟩
  · exact ⟨by decide, by decide +kernel⟩
  · exact ⟨by decide, by decide +kernel⟩
  · exact ⟨by decide, by decide +kernel⟩
  · exact ⟨by decide, by decide +kernel⟩
  · exact ⟨by decide, by decide +kernel⟩
  · exact ⟨by decide, by decide +kernel⟩
  · exact ⟨by decide, by decide +kernel⟩
  · exact ⟨by decide, by decide +kernel⟩
  · exact ⟨by decide, by decide +kernel⟩
  · exact ⟨by decide, by decide +kernel⟩
  · exact ⟨by decide, by decide +kernel⟩
  · exact ⟨by decide, by decide +kernel⟩
  · exact ⟨by decide, by decide +kernel⟩
  · exact ⟨by decide, by decide +kernel⟩
  · exact ⟨by decide, by decide +kernel⟩
  · exact ⟨by decide, by decide +kernel⟩
  · exact ⟨by decide, by decide +kernel⟩
  · exact ⟨by decide, by decide +kernel⟩
  · cases e
theorem fq_X0_260_tI : FQ RX0 260 f_X16_place tI := by
  intro k j e
  unfold f_X16_place at e
  split at e
  · cases e; exact ⟨fl_X0_260_16, Or.inl rfl⟩
  · cases e
theorem fq_X0_261_tN : FQ RX0 261 f_X15_torn tN := by
  intro k j e
  unfold f_X15_torn at e
  split at e
  · cases e; exact ⟨fl_X0_261_15, rfl⟩
  · cases e
theorem fn_X0_chain_261 : FN mX0_chain 261 f_X15_torn := by
  intro k j e
  unfold f_X15_torn at e
  split at e
  · cases e; exact Or.inl rfl
  · cases e
def d_X0_chain_26 (w : Wd) (F : Nat) : M Int32 :=
  zrt (-1 : Int32)
def d_X0_chain_114 (w : Wd) (F : Nat) (x : Nat) (a3 : Int32) (a5 : Option Nat) : M Int32 :=
  zbd (zgR f_X0_sheets (some x)) fun v20 =>
  zbd (zaR v20 a3) fun v21 =>
  zbd (zv1 0 (some x) (fun a => o_X0_survey w F a a5 v21)) fun _ =>
  zbd (zv1 0 (some x) (fun a => o_X0_add w F a a5)) fun v23 =>
  zrt v23
def o_X0_chain (w : Wd) (F : Nat) (x : Nat) (a1 : Int32) (a2 : Int32) (a3 : Int32) : M Int32 :=
  zbd (zv1 0 (some x) (fun a => o_X0_schemeAt w F a a1)) fun v1 =>
  zif (v1 = none) (d_X0_chain_26 w F)
  (zbd (o_X0_isSheet w F a2) fun v2 =>
  zif (v2 = 0) (d_X0_chain_26 w F)
  (zbd (o_X0_isSheet w F a3) fun v3 =>
  zif (v3 = 0) (d_X0_chain_26 w F)
  (zbd (zgR f_X0_sheets (some x)) fun v4 =>
  zbd (zaR v4 a2) fun v5 =>
  zif (v5 = none) (zrt (-11 : Int32))
  (zbd (zgR f_X0_sheets (some x)) fun v6 =>
  zbd (zaR v6 a2) fun v7 =>
  zbd (zio y_X26 n_X26 v7) fun v8 =>
  zif (v8 = 0) (zrt (-13 : Int32))
  (zbd (zv1 0 (some x) (fun a => o_X0_isFull w F a)) fun v9 =>
  zif (v9 = 0) (zbd (znw 15 0 17) fun n10 =>
  zbd (zgR f_X0_papers (some x)) fun v11 =>
  zbd (zv1 30 v11 (fun a => o_J2_size w F a)) fun v12 =>
  zbd (zgI f_X0_today (some x)) fun v13 =>
  zbd (znn n10 (fun a => o_X15_init w F a v12 v13 v1)) fun _ =>
  zbd (zgR f_X0_sheets (some x)) fun v15 =>
  zbd (zaR v15 a2) fun v16 =>
  zbd (zv1 0 (some x) (fun a => o_X0_walk w F a n10 v16)) fun r => zsm r (fun _ =>
  d_X0_chain_114 w F x a3 n10)
  (fun t19 => zbd (zgx 16 t19) fun _ =>
  zbd (zgI f_X16_place (some t19)) fun v20 =>
  zbd (zpI f_X15_torn n10 v20) fun _ =>
  d_X0_chain_114 w F x a3 n10))
  (zrt (-4 : Int32)))))))
theorem b_X0_chain_26 {w : Wd} {F : Nat} {h h1 : Hp} {y : Int32} {c s : Nat} (H : d_X0_chain_26 w F h = some (y, h1, c, s)) : V w mX0_chain cX0_chain 8 c s h 26 [none, none, none, none, none, none, none] [] (Ro (oI y) h1) := by
  unfold d_X0_chain_26 at H
  refine V_iconst (v := -1) (by decide) eX0_chain_26 ?_
  obtain ⟨rfl, rfl, rfl, rfl⟩ := zrt_ok H
  exact V_ireturn eX0_chain_27 rfl ⟨rfl, rfl⟩
theorem b_X0_chain_114 {w : Wd} {F : Nat} {x : Nat} {a3 : Int32} {a5 : Option Nat} {h h1 : Hp} {y : Int32} {c s : Nat} (H : d_X0_chain_114 w F x a3 a5 h = some (y, h1, c, s)) : V w mX0_chain cX0_chain 8 c s h 114 [some (va_rf (some x)), none, none, some (.int a3), none, some (va_rf a5), none] [] (Ro (oI y) h1) := by
  unfold d_X0_chain_114 at H
  refine V_aload0 eX0_chain_114 (zrf_rf _) ?_
  refine V_aload5 eX0_chain_115 (zrf_rf _) ?_
  refine V_aload0 eX0_chain_117 (zrf_rf _) ?_
  refine D_gR eX0_chain_118 fq_X0_179_tR H (fun v20 H => ?_)
  refine V_iload3 eX0_chain_121 ?_
  refine D_aaload eX0_chain_122 H (fun v21 H => ?_)
  refine D_callU (pc' := 126) (st := []) H (fun v h' c1 s1 e cb sb k => ?_) (fun v22 h c s H => ?_)
  · obtain ⟨a, hr, ha, hk, e9⟩ := zv1_ok e
    cases hr
    exact V_invokevirtual (k := 0) eX0_chain_123 lmX0_survey q928 q930 rfl rfl qs24 ha hk (c_X0_survey e9) (hRet_oU _ _) rfl rfl rfl rfl (kOU k)
  refine V_aload0 eX0_chain_126 (zrf_rf _) ?_
  refine V_aload5 eX0_chain_127 (zrf_rf _) ?_
  refine D_callI (pc' := 132) (st := []) H (fun v h' c1 s1 e cb sb k => ?_) (fun v23 h c s H => ?_)
  · obtain ⟨a, hr, ha, hk, e9⟩ := zv1_ok e
    cases hr
    exact V_invokevirtual (k := 0) eX0_chain_129 lmX0_add q793 q795 rfl rfl qs20 ha hk (c_X0_add e9) (hRet_oI _ _) rfl rfl rfl rfl (kOI k)
  obtain ⟨rfl, rfl, rfl, rfl⟩ := zrt_ok H
  exact V_ireturn eX0_chain_132 rfl ⟨rfl, rfl⟩
theorem c_X0_chain {w : Wd} {F : Nat} {x : Nat} {a1 : Int32} {a2 : Int32} {a3 : Int32} {h h1 : Hp} {y : Int32} {c s : Nat} (H : o_X0_chain w F x a1 a2 a3 h = some (y, h1, c, s)) : Con w mX0_chain cX0_chain 8 c s [.ref x, .int a1, .int a2, .int a3] h (Ro (oI y) h1) := by
  unfold o_X0_chain at H
  refine Con.of (ls := [some (va_rf (some x)), some (.int a1), some (.int a2), some (.int a3), none, none, none]) (by decide +kernel) rfl rfl ?_
  refine V_aload0 eX0_chain_0 (zrf_rf _) ?_
  refine V_iload1 eX0_chain_1 ?_
  refine D_callR (pc' := 5) (st := []) H (fun v h' c1 s1 e cb sb k => ?_) (fun v1 h c s H => ?_)
  · obtain ⟨a, hr, ha, hk, e9⟩ := zv1_ok e
    cases hr
    exact V_invokevirtual (k := 0) eX0_chain_2 lmX0_schemeAt q802 q804 rfl rfl qs21 ha hk (c_X0_schemeAt e9) (hRet_oR _ _) rfl rfl rfl rfl (kOR k)
  refine V_astore4 rfl eX0_chain_5 rfl (zrf_rf _) ?_
  refine V_aload4 eX0_chain_7 (zrf_rf _) ?_
  refine V_ifnull eX0_chain_9 (fun q => ?_) (fun a q => ?_)
  · have H := zif_t q H
    exact V_fg2 (b_X0_chain_26 H) (zfg_n (zfg_n (zfg_n (zfg_n (zfg_n (zfg_n (zfg_n zfg_e)))))))
  · have H := zif_f (zsn q) H
    refine V_iload2 eX0_chain_12 ?_
    refine D_callI (pc' := 16) (st := []) H (fun v h' c1 s1 e cb sb k => ?_) (fun v2 h c s H => ?_)
    · exact V_invokestatic eX0_chain_13 lmX0_isSheet q822 q823 (c_X0_isSheet e) (hRet_oI _ _) rfl rfl rfl rfl (kOI k)
    refine V_ifeq eX0_chain_16 (fun q => ?_) (fun q => ?_)
    · have H := zif_t q H
      exact V_fg2 (b_X0_chain_26 H) (zfg_n (zfg_n (zfg_n (zfg_n (zfg_n (zfg_n (zfg_n zfg_e)))))))
    · have H := zif_f q H
      refine V_iload3 eX0_chain_19 ?_
      refine D_callI (pc' := 23) (st := []) H (fun v h' c1 s1 e cb sb k => ?_) (fun v3 h c s H => ?_)
      · exact V_invokestatic eX0_chain_20 lmX0_isSheet q822 q823 (c_X0_isSheet e) (hRet_oI _ _) rfl rfl rfl rfl (kOI k)
      refine V_ifne eX0_chain_23 (fun q => ?_) (fun q => ?_)
      · have H := zif_f q H
        refine V_aload0 eX0_chain_28 (zrf_rf _) ?_
        refine D_gR eX0_chain_29 fq_X0_179_tR H (fun v4 H => ?_)
        refine V_iload2 eX0_chain_32 ?_
        refine D_aaload eX0_chain_33 H (fun v5 H => ?_)
        refine V_ifnonnull eX0_chain_34 (fun a q => ?_) (fun q => ?_)
        · have H := zif_f (zsn q) H
          refine V_aload0 eX0_chain_40 (zrf_rf _) ?_
          refine D_gR eX0_chain_41 fq_X0_179_tR H (fun v6 H => ?_)
          refine V_iload2 eX0_chain_44 ?_
          refine D_aaload eX0_chain_45 H (fun v7 H => ?_)
          refine D_inst eX0_chain_46 q825 y_X26_ok n_X26_ok H (fun v8 H => ?_)
          refine V_ifne eX0_chain_49 (fun q => ?_) (fun q => ?_)
          · have H := zif_f q H
            refine V_aload0 eX0_chain_55 (zrf_rf _) ?_
            refine D_callI (pc' := 59) (st := []) H (fun v h' c1 s1 e cb sb k => ?_) (fun v9 h c s H => ?_)
            · obtain ⟨a, hr, ha, hk, e9⟩ := zv1_ok e
              cases hr
              exact V_invokevirtual (k := 0) eX0_chain_56 lmX0_isFull q705 q707 rfl rfl qs19 ha hk (c_X0_isFull e9) (hRet_oI _ _) rfl rfl rfl rfl (kOI k)
            refine V_ifeq eX0_chain_59 (fun q => ?_) (fun q => ?_)
            · have H := zif_t q H
              refine D_new (g := 0) eX0_chain_65 nl_X0_134 rfl H (fun n10 h c s H => ?_)
              refine V_dup (zcr _) eX0_chain_68 ?_
              refine V_aload0 eX0_chain_69 (zrf_rf _) ?_
              refine D_gR eX0_chain_70 fq_X0_121_tR H (fun v11 H => ?_)
              refine D_callI (pc' := 76) (st := [va_rf n10, va_rf n10]) H (fun v h' c1 s1 e cb sb k => ?_) (fun v12 h c s H => ?_)
              · obtain ⟨a, hr, ha, hk, e9⟩ := zv1_ok e
                cases hr
                exact V_invokevirtual (k := 30) eX0_chain_73 lmJ2_size q156 q157 rfl rfl q158 ha hk (c_J2_size e9) (hRet_oI _ _) rfl rfl rfl (by simp only [List.map_cons, List.map_nil, zcr]; rfl) (kOI k)
              refine V_aload0 eX0_chain_76 (zrf_rf _) ?_
              refine D_gI eX0_chain_77 fq_X0_194_tI H (fun v13 H => ?_)
              refine V_aload4 eX0_chain_80 (zrf_rf _) ?_
              refine D_callU (pc' := 85) (st := [va_rf n10]) H (fun v h' c1 s1 e cb sb k => ?_) (fun v14 h c s H => ?_)
              · obtain ⟨a, hr, e9⟩ := znn_ok e
                cases hr
                exact V_invokeinit eX0_chain_82 lmX15_init rfl rfl q828 q829 (c_X15_init e9) (hRet_oU _ _) rfl rfl rfl (by simp only [List.map_cons, List.map_nil, zcr]; rfl) (kOU k)
              refine V_astore5 (znl_rf _) eX0_chain_85 rfl (zrf_rf _) ?_
              refine V_aload0 eX0_chain_87 (zrf_rf _) ?_
              refine V_aload5 eX0_chain_88 (zrf_rf _) ?_
              refine V_aload0 eX0_chain_90 (zrf_rf _) ?_
              refine D_gR eX0_chain_91 fq_X0_179_tR H (fun v15 H => ?_)
              refine V_iload2 eX0_chain_94 ?_
              refine D_aaload eX0_chain_95 H (fun v16 H => ?_)
              refine D_callXU (pc' := 99) (st := []) H (fun v h' c1 s1 e cb sb k => ?_) (fun t h' c1 s1 e cb sb k => ?_) (fun v18 h c s H => ?_) (fun t19 h c s H => ?_)
              · obtain ⟨a, hr, ha, hk, e9⟩ := zv1_ok e
                cases hr
                exact V_invokevirtual (k := 0) eX0_chain_96 lmX0_walk q872 q874 rfl rfl qs23 ha hk (c_X0_walk e9) (hRet_oU () _) rfl rfl rfl rfl (kOU (x := ()) k)
              · obtain ⟨a, hr, ha, hk, e9⟩ := zv1_ok e
                cases hr
                exact V_invokevirtualX (k := 0) eX0_chain_96 lmX0_walk q872 q874 rfl rfl qs23 ha hk (c_X0_walk e9) rfl rfl rfl rfl k
              · skip
                refine V_goto eX0_chain_99 ?_
                exact V_fg2 (b_X0_chain_114 H) (zfg_k (zfg_n (zfg_n (zfg_k (zfg_n (zfg_k (zfg_n zfg_e)))))))
              · obtain ⟨⟨qa, qk⟩, H⟩ := zgx_ok H
                refine VX_catch (k := 16) rfl rfl rfl rfl q801 (by decide) rfl qa qk ?_
                refine V_astore6 (znl_rf _) eX0_chain_102 rfl (zrf_rf _) ?_
                refine V_aload5 eX0_chain_104 (zrf_rf _) ?_
                refine V_aload6 eX0_chain_106 (zrf_rf _) ?_
                refine D_gI eX0_chain_108 fq_X0_260_tI H (fun v20 H => ?_)
                refine D_pI eX0_chain_111 fq_X0_261_tN fn_X0_chain_261 H (fun h H => ?_)
                exact V_fg2 (b_X0_chain_114 H) (zfg_k (zfg_n (zfg_n (zfg_k (zfg_n (zfg_k (zfg_n zfg_e)))))))
            · have H := zif_f q H
              refine V_bipush (v := -4) (by decide) eX0_chain_62 ?_
              obtain ⟨rfl, rfl, rfl, rfl⟩ := zrt_ok H
              exact V_ireturn eX0_chain_64 rfl ⟨rfl, rfl⟩
          · have H := zif_t q H
            refine V_bipush (v := -13) (by decide) eX0_chain_52 ?_
            obtain ⟨rfl, rfl, rfl, rfl⟩ := zrt_ok H
            exact V_ireturn eX0_chain_54 rfl ⟨rfl, rfl⟩
        · have H := zif_t q H
          refine V_bipush (v := -11) (by decide) eX0_chain_37 ?_
          obtain ⟨rfl, rfl, rfl, rfl⟩ := zrt_ok H
          exact V_ireturn eX0_chain_39 rfl ⟨rfl, rfl⟩
      · have H := zif_t q H
        exact V_fg2 (b_X0_chain_26 H) (zfg_n (zfg_n (zfg_n (zfg_n (zfg_n (zfg_n (zfg_n zfg_e)))))))
def y_X15 : Nat → Bool := fun k => match k with
  | 15 => true
  | _ => false
theorem y_X15_ok : ∀ k, y_X15 k = true → zok k = true ∧ ((zcl k).1 = "LinesPromised$Plan" ∨ Cond.castable (zcl k).1 "LinesPromised$Plan" ∈ lw_tbl) := by
  intro k e
  unfold y_X15 at e
  split at e
  · exact ⟨by decide, Or.inl rfl⟩
  · cases e
def n_X15 : Nat → Bool := fun k => match k with
  | 0 => true
  | 1 => true
  | 2 => true
  | 3 => true
  | 4 => true
  | 5 => true
  | 6 => true
  | 8 => true
  | 9 => true
  | 10 => true
  | 11 => true
  | 13 => true
  | 16 => true
  | 17 => true
  | 18 => true
  | 19 => true
  | 20 => true
  | 21 => true
  | 22 => true
  | 23 => true
  | 24 => true
  | 26 => true
  | 27 => true
  | 28 => true
  | 30 => true
  | _ => false
theorem n_X15_ok : ∀ k, n_X15 k = true → zok k = true ∧ ((zcl k).1, "LinesPromised$Plan") ∈ zNC := by
  intro k e
  unfold n_X15 at e
  split at e
  · exact ⟨by decide, by decide +kernel⟩
  · exact ⟨by decide, by decide +kernel⟩
  · exact ⟨by decide, by decide +kernel⟩
  · exact ⟨by decide, by decide +kernel⟩
  · exact ⟨by decide, by decide +kernel⟩
  · exact ⟨by decide, by decide +kernel⟩
  · exact ⟨by decide, by decide +kernel⟩
  · exact ⟨by decide, by decide +kernel⟩
  · exact ⟨by decide, by decide +kernel⟩
  · exact ⟨by decide, by decide +kernel⟩
  · exact ⟨by decide, by decide +kernel⟩
  · exact ⟨by decide, by decide +kernel⟩
  · exact ⟨by decide, by decide +kernel⟩
  · exact ⟨by decide, by decide +kernel⟩
  · exact ⟨by decide, by decide +kernel⟩
  · exact ⟨by decide, by decide +kernel⟩
  · exact ⟨by decide, by decide +kernel⟩
  · exact ⟨by decide, by decide +kernel⟩
  · exact ⟨by decide, by decide +kernel⟩
  · exact ⟨by decide, by decide +kernel⟩
  · exact ⟨by decide, by decide +kernel⟩
  · exact ⟨by decide, by decide +kernel⟩
  · exact ⟨by decide, by decide +kernel⟩
  · exact ⟨by decide, by decide +kernel⟩
  · exact ⟨by decide, by decide +kernel⟩
  · cases e
def d_X0_planAt_23 (w : Wd) (F : Nat) (s0 : Option Nat) : M (Option Nat) :=
  zrt s0
def o_X0_planAt (w : Wd) (F : Nat) (x : Nat) (a1 : Int32) : M (Option Nat) :=
  zbd (zv1 0 (some x) (fun a => o_X0_paperAt w F a a1)) fun v1 =>
  zbd (zio y_X15 n_X15 v1) fun v2 =>
  zif (v2 = 0) (d_X0_planAt_23 w F none)
  (zbd (zcc y_X15 v1) fun _ =>
  d_X0_planAt_23 w F v1)
theorem b_X0_planAt_23 {w : Wd} {F : Nat} {s0 : Option Nat} {h h1 : Hp} {y : Option Nat} {c s : Nat} (H : d_X0_planAt_23 w F s0 h = some (y, h1, c, s)) : V w mX0_planAt cX0_planAt 4 c s h 23 [none, none, none, none] [va_rf s0] (Ro (oR y) h1) := by
  unfold d_X0_planAt_23 at H
  obtain ⟨rfl, rfl, rfl, rfl⟩ := zrt_ok H
  exact V_areturn eX0_planAt_23 rfl (Or.inl ⟨_, rfl⟩) ⟨rfl, rfl⟩
theorem c_X0_planAt {w : Wd} {F : Nat} {x : Nat} {a1 : Int32} {h h1 : Hp} {y : Option Nat} {c s : Nat} (H : o_X0_planAt w F x a1 h = some (y, h1, c, s)) : Con w mX0_planAt cX0_planAt 4 c s [.ref x, .int a1] h (Ro (oR y) h1) := by
  unfold o_X0_planAt at H
  refine Con.of (ls := [some (va_rf (some x)), some (.int a1), none, none]) (by decide +kernel) rfl rfl ?_
  refine V_aload0 eX0_planAt_0 (zrf_rf _) ?_
  refine V_iload1 eX0_planAt_1 ?_
  refine D_callR (pc' := 5) (st := []) H (fun v h' c1 s1 e cb sb k => ?_) (fun v1 h c s H => ?_)
  · obtain ⟨a, hr, ha, hk, e9⟩ := zv1_ok e
    cases hr
    exact V_invokevirtual (k := 0) eX0_planAt_2 lmX0_paperAt q806 q808 rfl rfl qs22 ha hk (c_X0_paperAt e9) (hRet_oR _ _) rfl rfl rfl rfl (kOR k)
  refine V_astore3 rfl eX0_planAt_5 rfl (zrf_rf _) ?_
  refine V_aload3 eX0_planAt_6 (zrf_rf _) ?_
  refine D_inst eX0_planAt_7 q826 y_X15_ok n_X15_ok H (fun v2 H => ?_)
  refine V_ifeq eX0_planAt_10 (fun q => ?_) (fun q => ?_)
  · have H := zif_t q H
    refine D_null eX0_planAt_22 ?_
    exact V_fg2 (b_X0_planAt_23 H) (zfg_n (zfg_n (zfg_n (zfg_n zfg_e))))
  · have H := zif_f q H
    refine V_aload3 eX0_planAt_13 (zrf_rf _) ?_
    refine D_cast eX0_planAt_14 q826 y_X15_ok H (fun H => ?_)
    refine V_astore2 rfl eX0_planAt_17 rfl (zrf_rf _) ?_
    refine V_aload2 eX0_planAt_18 (zrf_rf _) ?_
    refine V_goto eX0_planAt_19 ?_
    exact V_fg2 (b_X0_planAt_23 H) (zfg_n (zfg_n (zfg_n (zfg_n zfg_e))))
def o_X0_rise (w : Wd) (F : Nat) (x : Nat) (a1 : Int32) (a2 : Int32) : M Int32 :=
  zbd (zgR f_X0_height (some x)) fun v1 =>
  zbd (zaI 0 v1 a1) fun v2 =>
  zbd (zgR f_X0_height (some x)) fun v3 =>
  zbd (zaI 0 v3 a2) fun v4 =>
  zbd (o_J6_abs w F (v2 - v4)) fun v5 =>
  zrt v5
theorem c_X0_rise {w : Wd} {F : Nat} {x : Nat} {a1 : Int32} {a2 : Int32} {h h1 : Hp} {y : Int32} {c s : Nat} (H : o_X0_rise w F x a1 a2 h = some (y, h1, c, s)) : Con w mX0_rise cX0_rise 1 c s [.ref x, .int a1, .int a2] h (Ro (oI y) h1) := by
  unfold o_X0_rise at H
  refine Con.of (ls := [some (va_rf (some x)), some (.int a1), some (.int a2)]) (by decide +kernel) rfl rfl ?_
  refine V_aload0 eX0_rise_0 (zrf_rf _) ?_
  refine D_gR eX0_rise_1 fq_X0_13_tR H (fun v1 H => ?_)
  refine V_iload1 eX0_rise_4 ?_
  refine D_iaload eX0_rise_5 H (fun v2 H => ?_)
  refine V_aload0 eX0_rise_6 (zrf_rf _) ?_
  refine D_gR eX0_rise_7 fq_X0_13_tR H (fun v3 H => ?_)
  refine V_iload2 eX0_rise_10 ?_
  refine D_iaload eX0_rise_11 H (fun v4 H => ?_)
  refine V_isub eX0_rise_12 ?_
  refine D_callI (pc' := 16) (st := []) H (fun v h' c1 s1 e cb sb k => ?_) (fun v5 h c s H => ?_)
  · exact V_invokestatic eX0_rise_13 lmJ6_abs q925 q926 (c_J6_abs e) (hRet_oI _ _) rfl rfl rfl rfl (kOI k)
  obtain ⟨rfl, rfl, rfl, rfl⟩ := zrt_ok H
  exact V_ireturn eX0_rise_16 rfl ⟨rfl, rfl⟩
def d_X0_yards_41 (w : Wd) (F : Nat) (s0 : Int32) (s1 : Int32) : M Int32 :=
  zrt (s0 + s1)
def o_X0_yards (w : Wd) (F : Nat) (x : Nat) (a1 : Int32) (a2 : Int32) : M Int32 :=
  zbd (zv1 0 (some x) (fun a => o_X0_rise w F a a1 a2)) fun v1 =>
  zbd (zgR f_X0_kind (some x)) fun v2 =>
  zbd (zaI 0 v2 a2) fun v3 =>
  zif (v3 = (1 : Int32)) (d_X0_yards_41 w F ((10 : Int32) + ((3 : Int32) * v1)) (20 : Int32))
  (zbd (zgR f_X0_kind (some x)) fun v4 =>
  zbd (zaI 0 v4 a2) fun v5 =>
  zif (v5 = (2 : Int32)) (d_X0_yards_41 w F ((10 : Int32) + ((3 : Int32) * v1)) (5 : Int32))
  (d_X0_yards_41 w F ((10 : Int32) + ((3 : Int32) * v1)) (0 : Int32)))
theorem b_X0_yards_41 {w : Wd} {F : Nat} {s0 : Int32} {s1 : Int32} {h h1 : Hp} {y : Int32} {c s : Nat} (H : d_X0_yards_41 w F s0 s1 h = some (y, h1, c, s)) : V w mX0_yards cX0_yards 2 c s h 41 [none, none, none] [.int s1, .int s0] (Ro (oI y) h1) := by
  unfold d_X0_yards_41 at H
  refine V_iadd eX0_yards_41 ?_
  obtain ⟨rfl, rfl, rfl, rfl⟩ := zrt_ok H
  exact V_ireturn eX0_yards_42 rfl ⟨rfl, rfl⟩
theorem c_X0_yards {w : Wd} {F : Nat} {x : Nat} {a1 : Int32} {a2 : Int32} {h h1 : Hp} {y : Int32} {c s : Nat} (H : o_X0_yards w F x a1 a2 h = some (y, h1, c, s)) : Con w mX0_yards cX0_yards 2 c s [.ref x, .int a1, .int a2] h (Ro (oI y) h1) := by
  unfold o_X0_yards at H
  refine Con.of (ls := [some (va_rf (some x)), some (.int a1), some (.int a2)]) (by decide +kernel) rfl rfl ?_
  refine V_bipush (v := 10) (by decide) eX0_yards_0 ?_
  refine V_iconst (v := 3) (by decide) eX0_yards_2 ?_
  refine V_aload0 eX0_yards_3 (zrf_rf _) ?_
  refine V_iload1 eX0_yards_4 ?_
  refine V_iload2 eX0_yards_5 ?_
  refine D_callI (pc' := 9) (st := [.int (3 : Int32), .int (10 : Int32)]) H (fun v h' c1 s1 e cb sb k => ?_) (fun v1 h c s H => ?_)
  · obtain ⟨a, hr, ha, hk, e9⟩ := zv1_ok e
    cases hr
    exact V_invokevirtual (k := 0) eX0_yards_6 lmX0_rise q953 q955 rfl rfl qs28 ha hk (c_X0_rise e9) (hRet_oI _ _) rfl rfl rfl rfl (kOI k)
  refine V_imul eX0_yards_9 ?_
  refine V_iadd eX0_yards_10 ?_
  refine V_aload0 eX0_yards_11 (zrf_rf _) ?_
  refine D_gR eX0_yards_12 fq_X0_21_tR H (fun v2 H => ?_)
  refine V_iload2 eX0_yards_15 ?_
  refine D_iaload eX0_yards_16 H (fun v3 H => ?_)
  refine V_iconst (v := 1) (by decide) eX0_yards_17 ?_
  refine V_if_icmpne eX0_yards_18 (fun q => ?_) (fun q => ?_)
  · have H := zif_f q H
    refine V_aload0 eX0_yards_26 (zrf_rf _) ?_
    refine D_gR eX0_yards_27 fq_X0_21_tR H (fun v4 H => ?_)
    refine V_iload2 eX0_yards_30 ?_
    refine D_iaload eX0_yards_31 H (fun v5 H => ?_)
    refine V_iconst (v := 2) (by decide) eX0_yards_32 ?_
    refine V_if_icmpne eX0_yards_33 (fun q => ?_) (fun q => ?_)
    · have H := zif_f q H
      refine V_iconst (v := 0) (by decide) eX0_yards_40 ?_
      exact V_fg2 (b_X0_yards_41 H) (zfg_n (zfg_n (zfg_n zfg_e)))
    · have H := zif_t q H
      refine V_iconst (v := 5) (by decide) eX0_yards_36 ?_
      refine V_goto eX0_yards_37 ?_
      exact V_fg2 (b_X0_yards_41 H) (zfg_n (zfg_n (zfg_n zfg_e)))
  · have H := zif_t q H
    refine V_bipush (v := 20) (by decide) eX0_yards_21 ?_
    refine V_goto eX0_yards_23 ?_
    exact V_fg2 (b_X0_yards_41 H) (zfg_n (zfg_n (zfg_n zfg_e)))
def B_X0_yardsOf_4 (w : Wd) (F : Nat) (k4 : Int32 → Int32 → M Int32) (x : Nat) (a1 : Option Nat) (a2 : Int32) (a3 : Int32) : M Int32 :=
  zbd (zgI f_X15_many a1) fun v1 =>
  zif (v1 ≤ a3) (zrt a2)
  (zbd (zgR f_X15_way a1) fun v2 =>
  zbd (zaI 0 v2 (a3 - (1 : Int32))) fun v3 =>
  zbd (zgR f_X15_way a1) fun v4 =>
  zbd (zaI 0 v4 a3) fun v5 =>
  zbd (zv1 0 (some x) (fun a => o_X0_yards w F a v3 v5)) fun v6 =>
  k4 (a2 + v6) (a3 + (1 : Int32)))
def d_X0_yardsOf_4 (w : Wd) (F : Nat) (x : Nat) (a1 : Option Nat) : Nat → Int32 → Int32 → M Int32
  | 0, _, _ => zno
  | n + 1, a2, a3 => B_X0_yardsOf_4 w F (d_X0_yardsOf_4 w F x a1 n) x a1 a2 a3
def o_X0_yardsOf (w : Wd) (F : Nat) (x : Nat) (a1 : Option Nat) : M Int32 :=
  d_X0_yardsOf_4 w F x a1 F (0 : Int32) (1 : Int32)
theorem bB_X0_yardsOf_4 {w : Wd} {F : Nat} {k4 : Int32 → Int32 → M Int32} {x : Nat} {a1 : Option Nat} (hk4 : ∀ (a2 : Int32) (a3 : Int32) (h : Hp) (y : Int32) (h1 : Hp) (c s : Nat), k4 a2 a3 h = some (y, h1, c, s) → V w mX0_yardsOf cX0_yardsOf 3 c s h 4 [some (va_rf (some x)), some (va_rf a1), some (.int a2), some (.int a3)] [] (Ro (oI y) h1)) {a2 : Int32} {a3 : Int32} {h h1 : Hp} {y : Int32} {c s : Nat} (H : B_X0_yardsOf_4 w F k4 x a1 a2 a3 h = some (y, h1, c, s)) : V w mX0_yardsOf cX0_yardsOf 3 c s h 4 [some (va_rf (some x)), some (va_rf a1), some (.int a2), some (.int a3)] [] (Ro (oI y) h1) := by
  unfold B_X0_yardsOf_4 at H
  refine V_iload3 eX0_yardsOf_4 ?_
  refine V_aload1 eX0_yardsOf_5 (zrf_rf _) ?_
  refine D_gI eX0_yardsOf_6 fq_X0_228_tI H (fun v1 H => ?_)
  refine V_if_icmpge eX0_yardsOf_9 (fun q => ?_) (fun q => ?_)
  · have H := zif_t q H
    refine V_iload2 eX0_yardsOf_39 ?_
    obtain ⟨rfl, rfl, rfl, rfl⟩ := zrt_ok H
    exact V_ireturn eX0_yardsOf_40 rfl ⟨rfl, rfl⟩
  · have H := zif_f q H
    refine V_iload2 eX0_yardsOf_12 ?_
    refine V_aload0 eX0_yardsOf_13 (zrf_rf _) ?_
    refine V_aload1 eX0_yardsOf_14 (zrf_rf _) ?_
    refine D_gR eX0_yardsOf_15 fq_X0_203_tR H (fun v2 H => ?_)
    refine V_iload3 eX0_yardsOf_18 ?_
    refine V_iconst (v := 1) (by decide) eX0_yardsOf_19 ?_
    refine V_isub eX0_yardsOf_20 ?_
    refine D_iaload eX0_yardsOf_21 H (fun v3 H => ?_)
    refine V_aload1 eX0_yardsOf_22 (zrf_rf _) ?_
    refine D_gR eX0_yardsOf_23 fq_X0_203_tR H (fun v4 H => ?_)
    refine V_iload3 eX0_yardsOf_26 ?_
    refine D_iaload eX0_yardsOf_27 H (fun v5 H => ?_)
    refine D_callI (pc' := 31) (st := [.int a2]) H (fun v h' c1 s1 e cb sb k => ?_) (fun v6 h c s H => ?_)
    · obtain ⟨a, hr, ha, hk, e9⟩ := zv1_ok e
      cases hr
      exact V_invokevirtual (k := 0) eX0_yardsOf_28 lmX0_yards q949 q951 rfl rfl qs27 ha hk (c_X0_yards e9) (hRet_oI _ _) rfl rfl rfl rfl (kOI k)
    refine V_iadd eX0_yardsOf_31 ?_
    refine V_istore2 (znl_rf _) eX0_yardsOf_32 rfl ?_
    refine V_iinc3 rfl eX0_yardsOf_33 rfl (v := 1) (by decide) ?_
    refine V_goto eX0_yardsOf_36 ?_
    exact V_fg2 (hk4 _ _ _ _ _ _ _ H) (zfg_k (zfg_k (zfg_k (zfg_k zfg_e))))
theorem b_X0_yardsOf_4 {w : Wd} {F : Nat} {x : Nat} {a1 : Option Nat} : ∀ (n : Nat) (a2 : Int32) (a3 : Int32) (h : Hp) (y : Int32) (h1 : Hp) (c s : Nat), d_X0_yardsOf_4 w F x a1 n a2 a3 h = some (y, h1, c, s) → V w mX0_yardsOf cX0_yardsOf 3 c s h 4 [some (va_rf (some x)), some (va_rf a1), some (.int a2), some (.int a3)] [] (Ro (oI y) h1) := by
  intro n
  induction n with
  | zero => intro a2 a3 h y h1 c s H; exact zno_no H
  | succ n ih => intro a2 a3 h y h1 c s H; exact bB_X0_yardsOf_4 ih H
theorem c_X0_yardsOf {w : Wd} {F : Nat} {x : Nat} {a1 : Option Nat} {h h1 : Hp} {y : Int32} {c s : Nat} (H : o_X0_yardsOf w F x a1 h = some (y, h1, c, s)) : Con w mX0_yardsOf cX0_yardsOf 3 c s [.ref x, va_rf a1] h (Ro (oI y) h1) := by
  unfold o_X0_yardsOf at H
  refine Con.of (ls := [some (va_rf (some x)), some (va_rf a1), none, none]) (by decide +kernel) (by simp only [zsl_r, zsl_i, zsl_l, zsl_n, zsl_a]; rfl) (by simp only [zar_r, zar_i, zar_l, zar_n, zar_a]; rfl) ?_
  refine V_iconst (v := 0) (by decide) eX0_yardsOf_0 ?_
  refine V_istore2 (znl_rf _) eX0_yardsOf_1 rfl ?_
  refine V_iconst (v := 1) (by decide) eX0_yardsOf_2 ?_
  refine V_istore3 rfl eX0_yardsOf_3 rfl ?_
  exact V_fg2 (b_X0_yardsOf_4 _ _ _ _ _ _ _ _ H) (zfg_k (zfg_k (zfg_k (zfg_k zfg_e))))
theorem fq_X0_261_tI : FQ RX0 261 f_X15_torn tI := by
  intro k j e
  unfold f_X15_torn at e
  split at e
  · cases e; exact ⟨fl_X0_261_15, Or.inl rfl⟩
  · cases e
def d_X0_way_85 (w : Wd) (F : Nat) (s0 : Int32) : M Int32 :=
  zrt s0
def o_X0_way (w : Wd) (F : Nat) (x : Nat) (a1 : Int32) (a2 : Int32) : M Int32 :=
  zbd (zv1 0 (some x) (fun a => o_X0_planAt w F a a1)) fun v1 =>
  zif (v1 = none) (zrt (-1 : Int32))
  (zif (a2 = (0 : Int32)) (zbd (zgI f_X15_many v1) fun v2 =>
  zrt v2)
  (zif (a2 = (1 : Int32)) (zbd (zgI f_X15_torn v1) fun v3 =>
  zrt v3)
  (zif (a2 = (2 : Int32)) (zbd (zv1 0 (some x) (fun a => o_X0_yardsOf w F a v1)) fun v4 =>
  zrt v4)
  (zbd (zgI f_X15_many v1) fun v5 =>
  zbd (o_X0_in w F a2 (10 : Int32) ((9 : Int32) + v5)) fun v6 =>
  zif (v6 = 0) (d_X0_way_85 w F (-1 : Int32))
  (zbd (zgR f_X15_way v1) fun v7 =>
  zbd (zaI 0 v7 (a2 - (10 : Int32))) fun v8 =>
  d_X0_way_85 w F v8)))))
theorem b_X0_way_85 {w : Wd} {F : Nat} {s0 : Int32} {h h1 : Hp} {y : Int32} {c s : Nat} (H : d_X0_way_85 w F s0 h = some (y, h1, c, s)) : V w mX0_way cX0_way 5 c s h 85 [none, none, none, none] [.int s0] (Ro (oI y) h1) := by
  unfold d_X0_way_85 at H
  obtain ⟨rfl, rfl, rfl, rfl⟩ := zrt_ok H
  exact V_ireturn eX0_way_85 rfl ⟨rfl, rfl⟩
theorem c_X0_way {w : Wd} {F : Nat} {x : Nat} {a1 : Int32} {a2 : Int32} {h h1 : Hp} {y : Int32} {c s : Nat} (H : o_X0_way w F x a1 a2 h = some (y, h1, c, s)) : Con w mX0_way cX0_way 5 c s [.ref x, .int a1, .int a2] h (Ro (oI y) h1) := by
  unfold o_X0_way at H
  refine Con.of (ls := [some (va_rf (some x)), some (.int a1), some (.int a2), none]) (by decide +kernel) rfl rfl ?_
  refine V_aload0 eX0_way_0 (zrf_rf _) ?_
  refine V_iload1 eX0_way_1 ?_
  refine D_callR (pc' := 5) (st := []) H (fun v h' c1 s1 e cb sb k => ?_) (fun v1 h c s H => ?_)
  · obtain ⟨a, hr, ha, hk, e9⟩ := zv1_ok e
    cases hr
    exact V_invokevirtual (k := 0) eX0_way_2 lmX0_planAt q941 q943 rfl rfl qs25 ha hk (c_X0_planAt e9) (hRet_oR _ _) rfl rfl rfl rfl (kOR k)
  refine V_astore3 rfl eX0_way_5 rfl (zrf_rf _) ?_
  refine V_aload3 eX0_way_6 (zrf_rf _) ?_
  refine V_ifnonnull eX0_way_7 (fun a q => ?_) (fun q => ?_)
  · have H := zif_f (zsn q) H
    refine V_iload2 eX0_way_12 ?_
    refine V_tableswitch eX0_way_13 (fun i t e1 e2 => ?_) (fun q => ?_)
    · rcases (show i = 0 ∨ i = 1 ∨ i = 2 ∨ 3 ≤ i by omega) with rfl | rfl | rfl | hlt
      · cases (show some 40 = some t from e1)
        have q : a2 = (0 : Int32) := Int32.toInt_inj.mp (e2.trans (by decide))
        have H := zif_t q H
        refine V_aload3 eX0_way_40 (zrf_rf _) ?_
        refine D_gI eX0_way_41 fq_X0_228_tI H (fun v2 H => ?_)
        obtain ⟨rfl, rfl, rfl, rfl⟩ := zrt_ok H
        exact V_ireturn eX0_way_44 rfl ⟨rfl, rfl⟩
      · cases (show some 45 = some t from e1)
        have q : a2 = (1 : Int32) := Int32.toInt_inj.mp (e2.trans (by decide))
        have H := zif_f (show ¬ a2 = (0 : Int32) from fun z => absurd (q.symm.trans z) (by decide)) H
        have H := zif_t q H
        refine V_aload3 eX0_way_45 (zrf_rf _) ?_
        refine D_gI eX0_way_46 fq_X0_261_tI H (fun v3 H => ?_)
        obtain ⟨rfl, rfl, rfl, rfl⟩ := zrt_ok H
        exact V_ireturn eX0_way_49 rfl ⟨rfl, rfl⟩
      · cases (show some 50 = some t from e1)
        have q : a2 = (2 : Int32) := Int32.toInt_inj.mp (e2.trans (by decide))
        have H := zif_f (show ¬ a2 = (0 : Int32) from fun z => absurd (q.symm.trans z) (by decide)) H
        have H := zif_f (show ¬ a2 = (1 : Int32) from fun z => absurd (q.symm.trans z) (by decide)) H
        have H := zif_t q H
        refine V_aload0 eX0_way_50 (zrf_rf _) ?_
        refine V_aload3 eX0_way_51 (zrf_rf _) ?_
        refine D_callI (pc' := 55) (st := []) H (fun v h' c1 s1 e cb sb k => ?_) (fun v4 h c s H => ?_)
        · obtain ⟨a, hr, ha, hk, e9⟩ := zv1_ok e
          cases hr
          exact V_invokevirtual (k := 0) eX0_way_52 lmX0_yardsOf q945 q947 rfl rfl qs26 ha hk (c_X0_yardsOf e9) (hRet_oI _ _) rfl rfl rfl rfl (kOI k)
        obtain ⟨rfl, rfl, rfl, rfl⟩ := zrt_ok H
        exact V_ireturn eX0_way_55 rfl ⟨rfl, rfl⟩
      · rw [List.getElem?_eq_none (by simpa using hlt)] at e1; cases e1
    · have q9 := q
      have H := zif_f (show ¬ a2 = (0 : Int32) from fun z => by rw [z] at q9; exact absurd q9 (by decide)) H
      have H := zif_f (show ¬ a2 = (1 : Int32) from fun z => by rw [z] at q9; exact absurd q9 (by decide)) H
      have H := zif_f (show ¬ a2 = (2 : Int32) from fun z => by rw [z] at q9; exact absurd q9 (by decide)) H
      refine V_iload2 eX0_way_56 ?_
      refine V_bipush (v := 10) (by decide) eX0_way_57 ?_
      refine V_bipush (v := 9) (by decide) eX0_way_59 ?_
      refine V_aload3 eX0_way_61 (zrf_rf _) ?_
      refine D_gI eX0_way_62 fq_X0_228_tI H (fun v5 H => ?_)
      refine V_iadd eX0_way_65 ?_
      refine D_callI (pc' := 69) (st := []) H (fun v h' c1 s1 e cb sb k => ?_) (fun v6 h c s H => ?_)
      · exact V_invokestatic eX0_way_66 lmX0_in q149 q150 (c_X0_in e) (hRet_oI _ _) rfl rfl rfl rfl (kOI k)
      refine V_ifeq eX0_way_69 (fun q => ?_) (fun q => ?_)
      · have H := zif_t q H
        refine V_iconst (v := -1) (by decide) eX0_way_84 ?_
        exact V_fg2 (b_X0_way_85 H) (zfg_n (zfg_n (zfg_n (zfg_n zfg_e))))
      · have H := zif_f q H
        refine V_aload3 eX0_way_72 (zrf_rf _) ?_
        refine D_gR eX0_way_73 fq_X0_203_tR H (fun v7 H => ?_)
        refine V_iload2 eX0_way_76 ?_
        refine V_bipush (v := 10) (by decide) eX0_way_77 ?_
        refine V_isub eX0_way_79 ?_
        refine D_iaload eX0_way_80 H (fun v8 H => ?_)
        refine V_goto eX0_way_81 ?_
        exact V_fg2 (b_X0_way_85 H) (zfg_n (zfg_n (zfg_n (zfg_n zfg_e))))
  · have H := zif_t q H
    refine V_iconst (v := -1) (by decide) eX0_way_10 ?_
    obtain ⟨rfl, rfl, rfl, rfl⟩ := zrt_ok H
    exact V_ireturn eX0_way_11 rfl ⟨rfl, rfl⟩
def d_X0_level_34 (w : Wd) (F : Nat) (s0 : Int32) : M Int32 :=
  zrt s0
def d_X0_level_24 (w : Wd) (F : Nat) : M Int32 :=
  d_X0_level_34 w F (-1 : Int32)
def o_X0_level (w : Wd) (F : Nat) (x : Nat) (a1 : Int32) (a2 : Int32) : M Int32 :=
  zbd (zv1 0 (some x) (fun a => o_X0_planAt w F a a1)) fun v1 =>
  zif (v1 = none) (d_X0_level_24 w F)
  (zbd (zgI f_X15_many v1) fun v2 =>
  zbd (o_X0_in w F a2 (0 : Int32) (v2 - (1 : Int32))) fun v3 =>
  zif (v3 = 0) (d_X0_level_24 w F)
  (zbd (zgR f_X15_levels v1) fun v4 =>
  zbd (zaI 0 v4 a2) fun v5 =>
  d_X0_level_34 w F v5))
theorem b_X0_level_34 {w : Wd} {F : Nat} {s0 : Int32} {h h1 : Hp} {y : Int32} {c s : Nat} (H : d_X0_level_34 w F s0 h = some (y, h1, c, s)) : V w mX0_level cX0_level 5 c s h 34 [none, none, none, none] [.int s0] (Ro (oI y) h1) := by
  unfold d_X0_level_34 at H
  obtain ⟨rfl, rfl, rfl, rfl⟩ := zrt_ok H
  exact V_ireturn eX0_level_34 rfl ⟨rfl, rfl⟩
theorem b_X0_level_24 {w : Wd} {F : Nat} {h h1 : Hp} {y : Int32} {c s : Nat} (H : d_X0_level_24 w F h = some (y, h1, c, s)) : V w mX0_level cX0_level 5 c s h 24 [none, none, none, none] [] (Ro (oI y) h1) := by
  unfold d_X0_level_24 at H
  refine V_iconst (v := -1) (by decide) eX0_level_24 ?_
  refine V_goto eX0_level_25 ?_
  exact V_fg2 (b_X0_level_34 H) (zfg_n (zfg_n (zfg_n (zfg_n zfg_e))))
theorem c_X0_level {w : Wd} {F : Nat} {x : Nat} {a1 : Int32} {a2 : Int32} {h h1 : Hp} {y : Int32} {c s : Nat} (H : o_X0_level w F x a1 a2 h = some (y, h1, c, s)) : Con w mX0_level cX0_level 5 c s [.ref x, .int a1, .int a2] h (Ro (oI y) h1) := by
  unfold o_X0_level at H
  refine Con.of (ls := [some (va_rf (some x)), some (.int a1), some (.int a2), none]) (by decide +kernel) rfl rfl ?_
  refine V_aload0 eX0_level_0 (zrf_rf _) ?_
  refine V_iload1 eX0_level_1 ?_
  refine D_callR (pc' := 5) (st := []) H (fun v h' c1 s1 e cb sb k => ?_) (fun v1 h c s H => ?_)
  · obtain ⟨a, hr, ha, hk, e9⟩ := zv1_ok e
    cases hr
    exact V_invokevirtual (k := 0) eX0_level_2 lmX0_planAt q941 q943 rfl rfl qs25 ha hk (c_X0_planAt e9) (hRet_oR _ _) rfl rfl rfl rfl (kOR k)
  refine V_astore3 rfl eX0_level_5 rfl (zrf_rf _) ?_
  refine V_aload3 eX0_level_6 (zrf_rf _) ?_
  refine V_ifnull eX0_level_7 (fun q => ?_) (fun a q => ?_)
  · have H := zif_t q H
    exact V_fg2 (b_X0_level_24 H) (zfg_n (zfg_n (zfg_n (zfg_n zfg_e))))
  · have H := zif_f (zsn q) H
    refine V_iload2 eX0_level_10 ?_
    refine V_iconst (v := 0) (by decide) eX0_level_11 ?_
    refine V_aload3 eX0_level_12 (zrf_rf _) ?_
    refine D_gI eX0_level_13 fq_X0_228_tI H (fun v2 H => ?_)
    refine V_iconst (v := 1) (by decide) eX0_level_16 ?_
    refine V_isub eX0_level_17 ?_
    refine D_callI (pc' := 21) (st := []) H (fun v h' c1 s1 e cb sb k => ?_) (fun v3 h c s H => ?_)
    · exact V_invokestatic eX0_level_18 lmX0_in q149 q150 (c_X0_in e) (hRet_oI _ _) rfl rfl rfl rfl (kOI k)
    refine V_ifne eX0_level_21 (fun q => ?_) (fun q => ?_)
    · have H := zif_f q H
      refine V_aload3 eX0_level_28 (zrf_rf _) ?_
      refine D_gR eX0_level_29 fq_X0_231_tR H (fun v4 H => ?_)
      refine V_iload2 eX0_level_32 ?_
      refine D_iaload eX0_level_33 H (fun v5 H => ?_)
      exact V_fg2 (b_X0_level_34 H) (zfg_n (zfg_n (zfg_n (zfg_n zfg_e))))
    · have H := zif_t q H
      exact V_fg2 (b_X0_level_24 H) (zfg_n (zfg_n (zfg_n (zfg_n zfg_e))))
def d_X0_openAt_58 (w : Wd) (F : Nat) (a4 : Int32) : M Int32 :=
  zrt a4
def B_X0_openAt_10 (w : Wd) (F : Nat) (k10 : Int32 → M Int32) (x : Nat) (a1 : Option Nat) (a3 : Int32) (a4 : Int32) : M Int32 :=
  zbd (zgI f_X15_many a1) fun v2 =>
  zif (v2 ≤ a4) (zrt (-5 : Int32))
  (zbd (zgR f_X15_levels a1) fun v3 =>
  zbd (zaI 0 v3 a4) fun v4 =>
  zif (v4 = (-1000000 : Int32)) (d_X0_openAt_58 w F a4)
  (zbd (zgR f_X15_levels a1) fun v5 =>
  zbd (zaI 0 v5 a4) fun v6 =>
  zbd (zgR f_X0_height (some x)) fun v7 =>
  zbd (zgR f_X15_way a1) fun v8 =>
  zbd (zaI 0 v8 a4) fun v9 =>
  zbd (zaI 0 v7 v9) fun v10 =>
  zbd (o_J6_abs w F (v6 - v10)) fun v11 =>
  zif (v11 ≤ a3) (k10 (a4 + (1 : Int32)))
  (d_X0_openAt_58 w F a4)))
def d_X0_openAt_10 (w : Wd) (F : Nat) (x : Nat) (a1 : Option Nat) (a3 : Int32) : Nat → Int32 → M Int32
  | 0, _ => zno
  | n + 1, a4 => B_X0_openAt_10 w F (d_X0_openAt_10 w F x a1 a3 n) x a1 a3 a4
def o_X0_openAt (w : Wd) (F : Nat) (x : Nat) (a1 : Option Nat) (a2 : Int32) : M Int32 :=
  zbd (zv1 0 (some x) (fun a => o_X0_rule w F a (1 : Int32) a2)) fun v1 =>
  d_X0_openAt_10 w F x a1 v1 F (0 : Int32)
theorem b_X0_openAt_58 {w : Wd} {F : Nat} {a4 : Int32} {h h1 : Hp} {y : Int32} {c s : Nat} (H : d_X0_openAt_58 w F a4 h = some (y, h1, c, s)) : V w mX0_openAt cX0_openAt 7 c s h 58 [none, none, none, none, some (.int a4)] [] (Ro (oI y) h1) := by
  unfold d_X0_openAt_58 at H
  refine V_iload4 eX0_openAt_58 ?_
  obtain ⟨rfl, rfl, rfl, rfl⟩ := zrt_ok H
  exact V_ireturn eX0_openAt_60 rfl ⟨rfl, rfl⟩
theorem bB_X0_openAt_10 {w : Wd} {F : Nat} {k10 : Int32 → M Int32} {x : Nat} {a1 : Option Nat} {a3 : Int32} (hk10 : ∀ (a4 : Int32) (h : Hp) (y : Int32) (h1 : Hp) (c s : Nat), k10 a4 h = some (y, h1, c, s) → V w mX0_openAt cX0_openAt 7 c s h 10 [some (va_rf (some x)), some (va_rf a1), none, some (.int a3), some (.int a4)] [] (Ro (oI y) h1)) {a4 : Int32} {h h1 : Hp} {y : Int32} {c s : Nat} (H : B_X0_openAt_10 w F k10 x a1 a3 a4 h = some (y, h1, c, s)) : V w mX0_openAt cX0_openAt 7 c s h 10 [some (va_rf (some x)), some (va_rf a1), none, some (.int a3), some (.int a4)] [] (Ro (oI y) h1) := by
  unfold B_X0_openAt_10 at H
  refine V_iload4 eX0_openAt_10 ?_
  refine V_aload1 eX0_openAt_12 (zrf_rf _) ?_
  refine D_gI eX0_openAt_13 fq_X0_228_tI H (fun v2 H => ?_)
  refine V_if_icmpge eX0_openAt_16 (fun q => ?_) (fun q => ?_)
  · have H := zif_t q H
    refine V_bipush (v := -5) (by decide) eX0_openAt_67 ?_
    obtain ⟨rfl, rfl, rfl, rfl⟩ := zrt_ok H
    exact V_ireturn eX0_openAt_69 rfl ⟨rfl, rfl⟩
  · have H := zif_f q H
    refine V_aload1 eX0_openAt_19 (zrf_rf _) ?_
    refine D_gR eX0_openAt_20 fq_X0_231_tR H (fun v3 H => ?_)
    refine V_iload4 eX0_openAt_23 ?_
    refine D_iaload eX0_openAt_25 H (fun v4 H => ?_)
    refine V_ldc (v := -1000000) eX0_openAt_26 q932 ?_
    refine V_if_icmpeq eX0_openAt_28 (fun q => ?_) (fun q => ?_)
    · have H := zif_t q H
      exact V_fg2 (b_X0_openAt_58 H) (zfg_n (zfg_n (zfg_n (zfg_n (zfg_k zfg_e)))))
    · have H := zif_f q H
      refine V_aload1 eX0_openAt_31 (zrf_rf _) ?_
      refine D_gR eX0_openAt_32 fq_X0_231_tR H (fun v5 H => ?_)
      refine V_iload4 eX0_openAt_35 ?_
      refine D_iaload eX0_openAt_37 H (fun v6 H => ?_)
      refine V_aload0 eX0_openAt_38 (zrf_rf _) ?_
      refine D_gR eX0_openAt_39 fq_X0_13_tR H (fun v7 H => ?_)
      refine V_aload1 eX0_openAt_42 (zrf_rf _) ?_
      refine D_gR eX0_openAt_43 fq_X0_203_tR H (fun v8 H => ?_)
      refine V_iload4 eX0_openAt_46 ?_
      refine D_iaload eX0_openAt_48 H (fun v9 H => ?_)
      refine D_iaload eX0_openAt_49 H (fun v10 H => ?_)
      refine V_isub eX0_openAt_50 ?_
      refine D_callI (pc' := 54) (st := []) H (fun v h' c1 s1 e cb sb k => ?_) (fun v11 h c s H => ?_)
      · exact V_invokestatic eX0_openAt_51 lmJ6_abs q925 q926 (c_J6_abs e) (hRet_oI _ _) rfl rfl rfl rfl (kOI k)
      refine V_iload3 eX0_openAt_54 ?_
      refine V_if_icmple eX0_openAt_55 (fun q => ?_) (fun q => ?_)
      · have H := zif_t q H
        refine V_iinc4 rfl eX0_openAt_61 rfl (v := 1) (by decide) ?_
        refine V_goto eX0_openAt_64 ?_
        exact V_fg2 (hk10 _ _ _ _ _ _ H) (zfg_k (zfg_k (zfg_n (zfg_k (zfg_k zfg_e)))))
      · have H := zif_f q H
        exact V_fg2 (b_X0_openAt_58 H) (zfg_n (zfg_n (zfg_n (zfg_n (zfg_k zfg_e)))))
theorem b_X0_openAt_10 {w : Wd} {F : Nat} {x : Nat} {a1 : Option Nat} {a3 : Int32} : ∀ (n : Nat) (a4 : Int32) (h : Hp) (y : Int32) (h1 : Hp) (c s : Nat), d_X0_openAt_10 w F x a1 a3 n a4 h = some (y, h1, c, s) → V w mX0_openAt cX0_openAt 7 c s h 10 [some (va_rf (some x)), some (va_rf a1), none, some (.int a3), some (.int a4)] [] (Ro (oI y) h1) := by
  intro n
  induction n with
  | zero => intro a4 h y h1 c s H; exact zno_no H
  | succ n ih => intro a4 h y h1 c s H; exact bB_X0_openAt_10 ih H
theorem c_X0_openAt {w : Wd} {F : Nat} {x : Nat} {a1 : Option Nat} {a2 : Int32} {h h1 : Hp} {y : Int32} {c s : Nat} (H : o_X0_openAt w F x a1 a2 h = some (y, h1, c, s)) : Con w mX0_openAt cX0_openAt 7 c s [.ref x, va_rf a1, .int a2] h (Ro (oI y) h1) := by
  unfold o_X0_openAt at H
  refine Con.of (ls := [some (va_rf (some x)), some (va_rf a1), some (.int a2), none, none]) (by decide +kernel) (by simp only [zsl_r, zsl_i, zsl_l, zsl_n, zsl_a]; rfl) (by simp only [zar_r, zar_i, zar_l, zar_n, zar_a]; rfl) ?_
  refine V_aload0 eX0_openAt_0 (zrf_rf _) ?_
  refine V_iconst (v := 1) (by decide) eX0_openAt_1 ?_
  refine V_iload2 eX0_openAt_2 ?_
  refine D_callI (pc' := 6) (st := []) H (fun v h' c1 s1 e cb sb k => ?_) (fun v1 h c s H => ?_)
  · obtain ⟨a, hr, ha, hk, e9⟩ := zv1_ok e
    cases hr
    exact V_invokevirtual (k := 0) eX0_openAt_3 lmX0_rule q529 q531 rfl rfl qs15 ha hk (c_X0_rule e9) (hRet_oI _ _) rfl rfl rfl rfl (kOI k)
  refine V_istore3 rfl eX0_openAt_6 rfl ?_
  refine V_iconst (v := 0) (by decide) eX0_openAt_7 ?_
  refine V_istore4 rfl eX0_openAt_8 rfl ?_
  exact V_fg2 (b_X0_openAt_10 _ _ _ _ _ _ _ H) (zfg_k (zfg_k (zfg_n (zfg_k (zfg_k zfg_e)))))
def B_X0_steepAt_10 (w : Wd) (F : Nat) (k10 : Int32 → M Int32) (x : Nat) (a1 : Option Nat) (a3 : Int32) (a4 : Int32) : M Int32 :=
  zbd (zgI f_X15_many a1) fun v2 =>
  zif (v2 ≤ a4) (zrt (-5 : Int32))
  (zbd (zgR f_X15_way a1) fun v3 =>
  zbd (zaI 0 v3 (a4 - (1 : Int32))) fun v4 =>
  zbd (zgR f_X15_way a1) fun v5 =>
  zbd (zaI 0 v5 a4) fun v6 =>
  zbd (zv1 0 (some x) (fun a => o_X0_rise w F a v4 v6)) fun v7 =>
  zif (v7 ≤ a3) (k10 (a4 + (1 : Int32)))
  (zrt a4))
def d_X0_steepAt_10 (w : Wd) (F : Nat) (x : Nat) (a1 : Option Nat) (a3 : Int32) : Nat → Int32 → M Int32
  | 0, _ => zno
  | n + 1, a4 => B_X0_steepAt_10 w F (d_X0_steepAt_10 w F x a1 a3 n) x a1 a3 a4
def o_X0_steepAt (w : Wd) (F : Nat) (x : Nat) (a1 : Option Nat) (a2 : Int32) : M Int32 :=
  zbd (zv1 0 (some x) (fun a => o_X0_rule w F a (0 : Int32) a2)) fun v1 =>
  d_X0_steepAt_10 w F x a1 v1 F (1 : Int32)
theorem bB_X0_steepAt_10 {w : Wd} {F : Nat} {k10 : Int32 → M Int32} {x : Nat} {a1 : Option Nat} {a3 : Int32} (hk10 : ∀ (a4 : Int32) (h : Hp) (y : Int32) (h1 : Hp) (c s : Nat), k10 a4 h = some (y, h1, c, s) → V w mX0_steepAt cX0_steepAt 7 c s h 10 [some (va_rf (some x)), some (va_rf a1), none, some (.int a3), some (.int a4)] [] (Ro (oI y) h1)) {a4 : Int32} {h h1 : Hp} {y : Int32} {c s : Nat} (H : B_X0_steepAt_10 w F k10 x a1 a3 a4 h = some (y, h1, c, s)) : V w mX0_steepAt cX0_steepAt 7 c s h 10 [some (va_rf (some x)), some (va_rf a1), none, some (.int a3), some (.int a4)] [] (Ro (oI y) h1) := by
  unfold B_X0_steepAt_10 at H
  refine V_iload4 eX0_steepAt_10 ?_
  refine V_aload1 eX0_steepAt_12 (zrf_rf _) ?_
  refine D_gI eX0_steepAt_13 fq_X0_228_tI H (fun v2 H => ?_)
  refine V_if_icmpge eX0_steepAt_16 (fun q => ?_) (fun q => ?_)
  · have H := zif_t q H
    refine V_bipush (v := -5) (by decide) eX0_steepAt_52 ?_
    obtain ⟨rfl, rfl, rfl, rfl⟩ := zrt_ok H
    exact V_ireturn eX0_steepAt_54 rfl ⟨rfl, rfl⟩
  · have H := zif_f q H
    refine V_aload0 eX0_steepAt_19 (zrf_rf _) ?_
    refine V_aload1 eX0_steepAt_20 (zrf_rf _) ?_
    refine D_gR eX0_steepAt_21 fq_X0_203_tR H (fun v3 H => ?_)
    refine V_iload4 eX0_steepAt_24 ?_
    refine V_iconst (v := 1) (by decide) eX0_steepAt_26 ?_
    refine V_isub eX0_steepAt_27 ?_
    refine D_iaload eX0_steepAt_28 H (fun v4 H => ?_)
    refine V_aload1 eX0_steepAt_29 (zrf_rf _) ?_
    refine D_gR eX0_steepAt_30 fq_X0_203_tR H (fun v5 H => ?_)
    refine V_iload4 eX0_steepAt_33 ?_
    refine D_iaload eX0_steepAt_35 H (fun v6 H => ?_)
    refine D_callI (pc' := 39) (st := []) H (fun v h' c1 s1 e cb sb k => ?_) (fun v7 h c s H => ?_)
    · obtain ⟨a, hr, ha, hk, e9⟩ := zv1_ok e
      cases hr
      exact V_invokevirtual (k := 0) eX0_steepAt_36 lmX0_rise q953 q955 rfl rfl qs28 ha hk (c_X0_rise e9) (hRet_oI _ _) rfl rfl rfl rfl (kOI k)
    refine V_iload3 eX0_steepAt_39 ?_
    refine V_if_icmple eX0_steepAt_40 (fun q => ?_) (fun q => ?_)
    · have H := zif_t q H
      refine V_iinc4 rfl eX0_steepAt_46 rfl (v := 1) (by decide) ?_
      refine V_goto eX0_steepAt_49 ?_
      exact V_fg2 (hk10 _ _ _ _ _ _ H) (zfg_k (zfg_k (zfg_n (zfg_k (zfg_k zfg_e)))))
    · have H := zif_f q H
      refine V_iload4 eX0_steepAt_43 ?_
      obtain ⟨rfl, rfl, rfl, rfl⟩ := zrt_ok H
      exact V_ireturn eX0_steepAt_45 rfl ⟨rfl, rfl⟩
theorem b_X0_steepAt_10 {w : Wd} {F : Nat} {x : Nat} {a1 : Option Nat} {a3 : Int32} : ∀ (n : Nat) (a4 : Int32) (h : Hp) (y : Int32) (h1 : Hp) (c s : Nat), d_X0_steepAt_10 w F x a1 a3 n a4 h = some (y, h1, c, s) → V w mX0_steepAt cX0_steepAt 7 c s h 10 [some (va_rf (some x)), some (va_rf a1), none, some (.int a3), some (.int a4)] [] (Ro (oI y) h1) := by
  intro n
  induction n with
  | zero => intro a4 h y h1 c s H; exact zno_no H
  | succ n ih => intro a4 h y h1 c s H; exact bB_X0_steepAt_10 ih H
theorem c_X0_steepAt {w : Wd} {F : Nat} {x : Nat} {a1 : Option Nat} {a2 : Int32} {h h1 : Hp} {y : Int32} {c s : Nat} (H : o_X0_steepAt w F x a1 a2 h = some (y, h1, c, s)) : Con w mX0_steepAt cX0_steepAt 7 c s [.ref x, va_rf a1, .int a2] h (Ro (oI y) h1) := by
  unfold o_X0_steepAt at H
  refine Con.of (ls := [some (va_rf (some x)), some (va_rf a1), some (.int a2), none, none]) (by decide +kernel) (by simp only [zsl_r, zsl_i, zsl_l, zsl_n, zsl_a]; rfl) (by simp only [zar_r, zar_i, zar_l, zar_n, zar_a]; rfl) ?_
  refine V_aload0 eX0_steepAt_0 (zrf_rf _) ?_
  refine V_iconst (v := 0) (by decide) eX0_steepAt_1 ?_
  refine V_iload2 eX0_steepAt_2 ?_
  refine D_callI (pc' := 6) (st := []) H (fun v h' c1 s1 e cb sb k => ?_) (fun v1 h c s H => ?_)
  · obtain ⟨a, hr, ha, hk, e9⟩ := zv1_ok e
    cases hr
    exact V_invokevirtual (k := 0) eX0_steepAt_3 lmX0_rule q529 q531 rfl rfl qs15 ha hk (c_X0_rule e9) (hRet_oI _ _) rfl rfl rfl rfl (kOI k)
  refine V_istore3 rfl eX0_steepAt_6 rfl ?_
  refine V_iconst (v := 1) (by decide) eX0_steepAt_7 ?_
  refine V_istore4 rfl eX0_steepAt_8 rfl ?_
  exact V_fg2 (b_X0_steepAt_10 _ _ _ _ _ _ _ H) (zfg_k (zfg_k (zfg_n (zfg_k (zfg_k zfg_e)))))
def d_X0_close_21 (w : Wd) (F : Nat) : M Int32 :=
  zrt (-1 : Int32)
def d_X0_close_54 (w : Wd) (F : Nat) (s0 : Int32) : M Int32 :=
  zrt s0
def o_X0_close (w : Wd) (F : Nat) (x : Nat) (a1 : Int32) (a2 : Int32) (a3 : Int32) : M Int32 :=
  zbd (zv1 0 (some x) (fun a => o_X0_planAt w F a a1)) fun v1 =>
  zif (v1 = none) (d_X0_close_21 w F)
  (zbd (o_X0_in w F a2 (0 : Int32) (1 : Int32)) fun v2 =>
  zif (v2 = 0) (d_X0_close_21 w F)
  (zbd (o_X0_isDay w F a3) fun v3 =>
  zif (v3 = 0) (zrt (-2 : Int32))
  (zif (a2 = 0) (zbd (zv1 0 (some x) (fun a => o_X0_openAt w F a v1 a3)) fun v5 =>
  d_X0_close_54 w F v5)
  (zbd (zv1 0 (some x) (fun a => o_X0_steepAt w F a v1 a3)) fun v4 =>
  d_X0_close_54 w F v4))))
theorem b_X0_close_21 {w : Wd} {F : Nat} {h h1 : Hp} {y : Int32} {c s : Nat} (H : d_X0_close_21 w F h = some (y, h1, c, s)) : V w mX0_close cX0_close 8 c s h 21 [none, none, none, none, none] [] (Ro (oI y) h1) := by
  unfold d_X0_close_21 at H
  refine V_iconst (v := -1) (by decide) eX0_close_21 ?_
  obtain ⟨rfl, rfl, rfl, rfl⟩ := zrt_ok H
  exact V_ireturn eX0_close_22 rfl ⟨rfl, rfl⟩
theorem b_X0_close_54 {w : Wd} {F : Nat} {s0 : Int32} {h h1 : Hp} {y : Int32} {c s : Nat} (H : d_X0_close_54 w F s0 h = some (y, h1, c, s)) : V w mX0_close cX0_close 8 c s h 54 [none, none, none, none, none] [.int s0] (Ro (oI y) h1) := by
  unfold d_X0_close_54 at H
  obtain ⟨rfl, rfl, rfl, rfl⟩ := zrt_ok H
  exact V_ireturn eX0_close_54 rfl ⟨rfl, rfl⟩
theorem c_X0_close {w : Wd} {F : Nat} {x : Nat} {a1 : Int32} {a2 : Int32} {a3 : Int32} {h h1 : Hp} {y : Int32} {c s : Nat} (H : o_X0_close w F x a1 a2 a3 h = some (y, h1, c, s)) : Con w mX0_close cX0_close 8 c s [.ref x, .int a1, .int a2, .int a3] h (Ro (oI y) h1) := by
  unfold o_X0_close at H
  refine Con.of (ls := [some (va_rf (some x)), some (.int a1), some (.int a2), some (.int a3), none]) (by decide +kernel) rfl rfl ?_
  refine V_aload0 eX0_close_0 (zrf_rf _) ?_
  refine V_iload1 eX0_close_1 ?_
  refine D_callR (pc' := 5) (st := []) H (fun v h' c1 s1 e cb sb k => ?_) (fun v1 h c s H => ?_)
  · obtain ⟨a, hr, ha, hk, e9⟩ := zv1_ok e
    cases hr
    exact V_invokevirtual (k := 0) eX0_close_2 lmX0_planAt q941 q943 rfl rfl qs25 ha hk (c_X0_planAt e9) (hRet_oR _ _) rfl rfl rfl rfl (kOR k)
  refine V_astore4 rfl eX0_close_5 rfl (zrf_rf _) ?_
  refine V_aload4 eX0_close_7 (zrf_rf _) ?_
  refine V_ifnull eX0_close_9 (fun q => ?_) (fun a q => ?_)
  · have H := zif_t q H
    exact V_fg2 (b_X0_close_21 H) (zfg_n (zfg_n (zfg_n (zfg_n (zfg_n zfg_e)))))
  · have H := zif_f (zsn q) H
    refine V_iload2 eX0_close_12 ?_
    refine V_iconst (v := 0) (by decide) eX0_close_13 ?_
    refine V_iconst (v := 1) (by decide) eX0_close_14 ?_
    refine D_callI (pc' := 18) (st := []) H (fun v h' c1 s1 e cb sb k => ?_) (fun v2 h c s H => ?_)
    · exact V_invokestatic eX0_close_15 lmX0_in q149 q150 (c_X0_in e) (hRet_oI _ _) rfl rfl rfl rfl (kOI k)
    refine V_ifne eX0_close_18 (fun q => ?_) (fun q => ?_)
    · have H := zif_f q H
      refine V_iload3 eX0_close_23 ?_
      refine D_callI (pc' := 27) (st := []) H (fun v h' c1 s1 e cb sb k => ?_) (fun v3 h c s H => ?_)
      · exact V_invokestatic eX0_close_24 lmX0_isDay q293 q294 (c_X0_isDay e) (hRet_oI _ _) rfl rfl rfl rfl (kOI k)
      refine V_ifne eX0_close_27 (fun q => ?_) (fun q => ?_)
      · have H := zif_f q H
        refine V_iload2 eX0_close_33 ?_
        refine V_ifne eX0_close_34 (fun q => ?_) (fun q => ?_)
        · have H := zif_f q H
          refine V_aload0 eX0_close_47 (zrf_rf _) ?_
          refine V_aload4 eX0_close_48 (zrf_rf _) ?_
          refine V_iload3 eX0_close_50 ?_
          refine D_callI (pc' := 54) (st := []) H (fun v h' c1 s1 e cb sb k => ?_) (fun v4 h c s H => ?_)
          · obtain ⟨a, hr, ha, hk, e9⟩ := zv1_ok e
            cases hr
            exact V_invokevirtual (k := 0) eX0_close_51 lmX0_steepAt q969 q971 rfl rfl qs30 ha hk (c_X0_steepAt e9) (hRet_oI _ _) rfl rfl rfl rfl (kOI k)
          exact V_fg2 (b_X0_close_54 H) (zfg_n (zfg_n (zfg_n (zfg_n (zfg_n zfg_e)))))
        · have H := zif_t q H
          refine V_aload0 eX0_close_37 (zrf_rf _) ?_
          refine V_aload4 eX0_close_38 (zrf_rf _) ?_
          refine V_iload3 eX0_close_40 ?_
          refine D_callI (pc' := 44) (st := []) H (fun v h' c1 s1 e cb sb k => ?_) (fun v5 h c s H => ?_)
          · obtain ⟨a, hr, ha, hk, e9⟩ := zv1_ok e
            cases hr
            exact V_invokevirtual (k := 0) eX0_close_41 lmX0_openAt q965 q967 rfl rfl qs29 ha hk (c_X0_openAt e9) (hRet_oI _ _) rfl rfl rfl rfl (kOI k)
          refine V_goto eX0_close_44 ?_
          exact V_fg2 (b_X0_close_54 H) (zfg_n (zfg_n (zfg_n (zfg_n (zfg_n zfg_e)))))
      · have H := zif_t q H
        refine V_bipush (v := -2) (by decide) eX0_close_30 ?_
        obtain ⟨rfl, rfl, rfl, rfl⟩ := zrt_ok H
        exact V_ireturn eX0_close_32 rfl ⟨rfl, rfl⟩
    · have H := zif_t q H
      exact V_fg2 (b_X0_close_21 H) (zfg_n (zfg_n (zfg_n (zfg_n (zfg_n zfg_e)))))
def d_X0_quarrel_22 (w : Wd) (F : Nat) : M Int32 :=
  zrt (-1 : Int32)
def d_X0_quarrel_127 (w : Wd) (F : Nat) (k48 : Int32 → M Int32) (a3 : Option Nat) (a4 : Option Nat) (a5 : Int32) (a6 : Int32) : M Int32 :=
  k48 (a6 + (1 : Int32))
def B_X0_quarrel_48 (w : Wd) (F : Nat) (k36 : Int32 → M Int32) (k48 : Int32 → M Int32) (a3 : Option Nat) (a4 : Option Nat) (a5 : Int32) (a6 : Int32) : M Int32 :=
  zbd (zgI f_X15_many a4) fun v4 =>
  zif (v4 ≤ a6) (k36 (a5 + (1 : Int32)))
  (zbd (zgR f_X15_way a3) fun v5 =>
  zbd (zaI 0 v5 a5) fun v6 =>
  zbd (zgR f_X15_way a4) fun v7 =>
  zbd (zaI 0 v7 a6) fun v8 =>
  zif (v6 = v8) (zbd (zgR f_X15_levels a3) fun v9 =>
  zbd (zaI 0 v9 a5) fun v10 =>
  zif (v10 = (-1000000 : Int32)) (d_X0_quarrel_127 w F k48 a3 a4 a5 a6)
  (zbd (zgR f_X15_levels a4) fun v11 =>
  zbd (zaI 0 v11 a6) fun v12 =>
  zif (v12 = (-1000000 : Int32)) (d_X0_quarrel_127 w F k48 a3 a4 a5 a6)
  (zbd (zgR f_X15_levels a3) fun v13 =>
  zbd (zaI 0 v13 a5) fun v14 =>
  zbd (zgR f_X15_levels a4) fun v15 =>
  zbd (zaI 0 v15 a6) fun v16 =>
  zif (v14 = v16) (d_X0_quarrel_127 w F k48 a3 a4 a5 a6)
  (zbd (zgR f_X15_way a3) fun v17 =>
  zbd (zaI 0 v17 a5) fun v18 =>
  zrt v18))))
  (d_X0_quarrel_127 w F k48 a3 a4 a5 a6))
def d_X0_quarrel_48 (w : Wd) (F : Nat) (k36 : Int32 → M Int32) (a3 : Option Nat) (a4 : Option Nat) (a5 : Int32) : Nat → Int32 → M Int32
  | 0, _ => zno
  | n + 1, a6 => B_X0_quarrel_48 w F k36 (d_X0_quarrel_48 w F k36 a3 a4 a5 n) a3 a4 a5 a6
def B_X0_quarrel_36 (w : Wd) (F : Nat) (k36 : Int32 → M Int32) (a3 : Option Nat) (a4 : Option Nat) (a5 : Int32) : M Int32 :=
  zbd (zgI f_X15_many a3) fun v3 =>
  zif (v3 ≤ a5) (zrt (-5 : Int32))
  (d_X0_quarrel_48 w F k36 a3 a4 a5 F (0 : Int32))
def d_X0_quarrel_36 (w : Wd) (F : Nat) (a3 : Option Nat) (a4 : Option Nat) : Nat → Int32 → M Int32
  | 0, _ => zno
  | n + 1, a5 => B_X0_quarrel_36 w F (d_X0_quarrel_36 w F a3 a4 n) a3 a4 a5
def o_X0_quarrel (w : Wd) (F : Nat) (x : Nat) (a1 : Int32) (a2 : Int32) : M Int32 :=
  zbd (zv1 0 (some x) (fun a => o_X0_planAt w F a a1)) fun v1 =>
  zbd (zv1 0 (some x) (fun a => o_X0_planAt w F a a2)) fun v2 =>
  zif (v1 = none) (d_X0_quarrel_22 w F)
  (zif (v2 = none) (d_X0_quarrel_22 w F)
  (zif (v1 = v2) (zrt (-2 : Int32))
  (d_X0_quarrel_36 w F v1 v2 F (0 : Int32))))
theorem b_X0_quarrel_22 {w : Wd} {F : Nat} {h h1 : Hp} {y : Int32} {c s : Nat} (H : d_X0_quarrel_22 w F h = some (y, h1, c, s)) : V w mX0_quarrel cX0_quarrel 5 c s h 22 [none, none, none, none, none, none, none] [] (Ro (oI y) h1) := by
  unfold d_X0_quarrel_22 at H
  refine V_iconst (v := -1) (by decide) eX0_quarrel_22 ?_
  obtain ⟨rfl, rfl, rfl, rfl⟩ := zrt_ok H
  exact V_ireturn eX0_quarrel_23 rfl ⟨rfl, rfl⟩
theorem b_X0_quarrel_127 {w : Wd} {F : Nat} {k48 : Int32 → M Int32} {a3 : Option Nat} {a4 : Option Nat} {a5 : Int32} (hk48 : ∀ (a6 : Int32) (h : Hp) (y : Int32) (h1 : Hp) (c s : Nat), k48 a6 h = some (y, h1, c, s) → V w mX0_quarrel cX0_quarrel 5 c s h 48 [none, none, none, some (va_rf a3), some (va_rf a4), some (.int a5), some (.int a6)] [] (Ro (oI y) h1)) {a6 : Int32} {h h1 : Hp} {y : Int32} {c s : Nat} (H : d_X0_quarrel_127 w F k48 a3 a4 a5 a6 h = some (y, h1, c, s)) : V w mX0_quarrel cX0_quarrel 5 c s h 127 [none, none, none, some (va_rf a3), some (va_rf a4), some (.int a5), some (.int a6)] [] (Ro (oI y) h1) := by
  unfold d_X0_quarrel_127 at H
  refine V_iinc6 rfl eX0_quarrel_127 rfl (v := 1) (by decide) ?_
  refine V_goto eX0_quarrel_130 ?_
  exact V_fg2 (hk48 _ _ _ _ _ _ H) (zfg_n (zfg_n (zfg_n (zfg_k (zfg_k (zfg_k (zfg_k zfg_e)))))))
theorem bB_X0_quarrel_48 {w : Wd} {F : Nat} {k36 : Int32 → M Int32} {k48 : Int32 → M Int32} {a3 : Option Nat} {a4 : Option Nat} {a5 : Int32} (hk36 : ∀ (a5 : Int32) (h : Hp) (y : Int32) (h1 : Hp) (c s : Nat), k36 a5 h = some (y, h1, c, s) → V w mX0_quarrel cX0_quarrel 5 c s h 36 [none, none, none, some (va_rf a3), some (va_rf a4), some (.int a5), none] [] (Ro (oI y) h1)) (hk48 : ∀ (a6 : Int32) (h : Hp) (y : Int32) (h1 : Hp) (c s : Nat), k48 a6 h = some (y, h1, c, s) → V w mX0_quarrel cX0_quarrel 5 c s h 48 [none, none, none, some (va_rf a3), some (va_rf a4), some (.int a5), some (.int a6)] [] (Ro (oI y) h1)) {a6 : Int32} {h h1 : Hp} {y : Int32} {c s : Nat} (H : B_X0_quarrel_48 w F k36 k48 a3 a4 a5 a6 h = some (y, h1, c, s)) : V w mX0_quarrel cX0_quarrel 5 c s h 48 [none, none, none, some (va_rf a3), some (va_rf a4), some (.int a5), some (.int a6)] [] (Ro (oI y) h1) := by
  unfold B_X0_quarrel_48 at H
  refine V_iload6 eX0_quarrel_48 ?_
  refine V_aload4 eX0_quarrel_50 (zrf_rf _) ?_
  refine D_gI eX0_quarrel_52 fq_X0_228_tI H (fun v4 H => ?_)
  refine V_if_icmpge eX0_quarrel_55 (fun q => ?_) (fun q => ?_)
  · have H := zif_t q H
    refine V_iinc5 (znl_rf _) eX0_quarrel_133 rfl (v := 1) (by decide) ?_
    refine V_goto eX0_quarrel_136 ?_
    exact V_fg2 (hk36 _ _ _ _ _ _ H) (zfg_n (zfg_n (zfg_n (zfg_k (zfg_k (zfg_k (zfg_n zfg_e)))))))
  · have H := zif_f q H
    refine V_aload3 eX0_quarrel_58 (zrf_rf _) ?_
    refine D_gR eX0_quarrel_59 fq_X0_203_tR H (fun v5 H => ?_)
    refine V_iload5 eX0_quarrel_62 ?_
    refine D_iaload eX0_quarrel_64 H (fun v6 H => ?_)
    refine V_aload4 eX0_quarrel_65 (zrf_rf _) ?_
    refine D_gR eX0_quarrel_67 fq_X0_203_tR H (fun v7 H => ?_)
    refine V_iload6 eX0_quarrel_70 ?_
    refine D_iaload eX0_quarrel_72 H (fun v8 H => ?_)
    refine V_if_icmpne eX0_quarrel_73 (fun q => ?_) (fun q => ?_)
    · have H := zif_f q H
      exact V_fg2 (b_X0_quarrel_127 hk48 H) (zfg_n (zfg_n (zfg_n (zfg_k (zfg_k (zfg_k (zfg_k zfg_e)))))))
    · have H := zif_t q H
      refine V_aload3 eX0_quarrel_76 (zrf_rf _) ?_
      refine D_gR eX0_quarrel_77 fq_X0_231_tR H (fun v9 H => ?_)
      refine V_iload5 eX0_quarrel_80 ?_
      refine D_iaload eX0_quarrel_82 H (fun v10 H => ?_)
      refine V_ldc (v := -1000000) eX0_quarrel_83 q932 ?_
      refine V_if_icmpeq eX0_quarrel_85 (fun q => ?_) (fun q => ?_)
      · have H := zif_t q H
        exact V_fg2 (b_X0_quarrel_127 hk48 H) (zfg_n (zfg_n (zfg_n (zfg_k (zfg_k (zfg_k (zfg_k zfg_e)))))))
      · have H := zif_f q H
        refine V_aload4 eX0_quarrel_88 (zrf_rf _) ?_
        refine D_gR eX0_quarrel_90 fq_X0_231_tR H (fun v11 H => ?_)
        refine V_iload6 eX0_quarrel_93 ?_
        refine D_iaload eX0_quarrel_95 H (fun v12 H => ?_)
        refine V_ldc (v := -1000000) eX0_quarrel_96 q932 ?_
        refine V_if_icmpeq eX0_quarrel_98 (fun q => ?_) (fun q => ?_)
        · have H := zif_t q H
          exact V_fg2 (b_X0_quarrel_127 hk48 H) (zfg_n (zfg_n (zfg_n (zfg_k (zfg_k (zfg_k (zfg_k zfg_e)))))))
        · have H := zif_f q H
          refine V_aload3 eX0_quarrel_101 (zrf_rf _) ?_
          refine D_gR eX0_quarrel_102 fq_X0_231_tR H (fun v13 H => ?_)
          refine V_iload5 eX0_quarrel_105 ?_
          refine D_iaload eX0_quarrel_107 H (fun v14 H => ?_)
          refine V_aload4 eX0_quarrel_108 (zrf_rf _) ?_
          refine D_gR eX0_quarrel_110 fq_X0_231_tR H (fun v15 H => ?_)
          refine V_iload6 eX0_quarrel_113 ?_
          refine D_iaload eX0_quarrel_115 H (fun v16 H => ?_)
          refine V_if_icmpeq eX0_quarrel_116 (fun q => ?_) (fun q => ?_)
          · have H := zif_t q H
            exact V_fg2 (b_X0_quarrel_127 hk48 H) (zfg_n (zfg_n (zfg_n (zfg_k (zfg_k (zfg_k (zfg_k zfg_e)))))))
          · have H := zif_f q H
            refine V_aload3 eX0_quarrel_119 (zrf_rf _) ?_
            refine D_gR eX0_quarrel_120 fq_X0_203_tR H (fun v17 H => ?_)
            refine V_iload5 eX0_quarrel_123 ?_
            refine D_iaload eX0_quarrel_125 H (fun v18 H => ?_)
            obtain ⟨rfl, rfl, rfl, rfl⟩ := zrt_ok H
            exact V_ireturn eX0_quarrel_126 rfl ⟨rfl, rfl⟩
theorem b_X0_quarrel_48 {w : Wd} {F : Nat} {k36 : Int32 → M Int32} {a3 : Option Nat} {a4 : Option Nat} {a5 : Int32} (hk36 : ∀ (a5 : Int32) (h : Hp) (y : Int32) (h1 : Hp) (c s : Nat), k36 a5 h = some (y, h1, c, s) → V w mX0_quarrel cX0_quarrel 5 c s h 36 [none, none, none, some (va_rf a3), some (va_rf a4), some (.int a5), none] [] (Ro (oI y) h1)) : ∀ (n : Nat) (a6 : Int32) (h : Hp) (y : Int32) (h1 : Hp) (c s : Nat), d_X0_quarrel_48 w F k36 a3 a4 a5 n a6 h = some (y, h1, c, s) → V w mX0_quarrel cX0_quarrel 5 c s h 48 [none, none, none, some (va_rf a3), some (va_rf a4), some (.int a5), some (.int a6)] [] (Ro (oI y) h1) := by
  intro n
  induction n with
  | zero => intro a6 h y h1 c s H; exact zno_no H
  | succ n ih => intro a6 h y h1 c s H; exact bB_X0_quarrel_48 hk36 ih H
theorem bB_X0_quarrel_36 {w : Wd} {F : Nat} {k36 : Int32 → M Int32} {a3 : Option Nat} {a4 : Option Nat} (hk36 : ∀ (a5 : Int32) (h : Hp) (y : Int32) (h1 : Hp) (c s : Nat), k36 a5 h = some (y, h1, c, s) → V w mX0_quarrel cX0_quarrel 5 c s h 36 [none, none, none, some (va_rf a3), some (va_rf a4), some (.int a5), none] [] (Ro (oI y) h1)) {a5 : Int32} {h h1 : Hp} {y : Int32} {c s : Nat} (H : B_X0_quarrel_36 w F k36 a3 a4 a5 h = some (y, h1, c, s)) : V w mX0_quarrel cX0_quarrel 5 c s h 36 [none, none, none, some (va_rf a3), some (va_rf a4), some (.int a5), none] [] (Ro (oI y) h1) := by
  unfold B_X0_quarrel_36 at H
  refine V_iload5 eX0_quarrel_36 ?_
  refine V_aload3 eX0_quarrel_38 (zrf_rf _) ?_
  refine D_gI eX0_quarrel_39 fq_X0_228_tI H (fun v3 H => ?_)
  refine V_if_icmpge eX0_quarrel_42 (fun q => ?_) (fun q => ?_)
  · have H := zif_t q H
    refine V_bipush (v := -5) (by decide) eX0_quarrel_139 ?_
    obtain ⟨rfl, rfl, rfl, rfl⟩ := zrt_ok H
    exact V_ireturn eX0_quarrel_141 rfl ⟨rfl, rfl⟩
  · have H := zif_f q H
    refine V_iconst (v := 0) (by decide) eX0_quarrel_45 ?_
    refine V_istore6 rfl eX0_quarrel_46 rfl ?_
    exact V_fg2 (b_X0_quarrel_48 hk36 _ _ _ _ _ _ _ H) (zfg_n (zfg_n (zfg_n (zfg_k (zfg_k (zfg_k (zfg_k zfg_e)))))))
theorem b_X0_quarrel_36 {w : Wd} {F : Nat} {a3 : Option Nat} {a4 : Option Nat} : ∀ (n : Nat) (a5 : Int32) (h : Hp) (y : Int32) (h1 : Hp) (c s : Nat), d_X0_quarrel_36 w F a3 a4 n a5 h = some (y, h1, c, s) → V w mX0_quarrel cX0_quarrel 5 c s h 36 [none, none, none, some (va_rf a3), some (va_rf a4), some (.int a5), none] [] (Ro (oI y) h1) := by
  intro n
  induction n with
  | zero => intro a5 h y h1 c s H; exact zno_no H
  | succ n ih => intro a5 h y h1 c s H; exact bB_X0_quarrel_36 ih H
theorem c_X0_quarrel {w : Wd} {F : Nat} {x : Nat} {a1 : Int32} {a2 : Int32} {h h1 : Hp} {y : Int32} {c s : Nat} (H : o_X0_quarrel w F x a1 a2 h = some (y, h1, c, s)) : Con w mX0_quarrel cX0_quarrel 5 c s [.ref x, .int a1, .int a2] h (Ro (oI y) h1) := by
  unfold o_X0_quarrel at H
  refine Con.of (ls := [some (va_rf (some x)), some (.int a1), some (.int a2), none, none, none, none]) (by decide +kernel) rfl rfl ?_
  refine V_aload0 eX0_quarrel_0 (zrf_rf _) ?_
  refine V_iload1 eX0_quarrel_1 ?_
  refine D_callR (pc' := 5) (st := []) H (fun v h' c1 s1 e cb sb k => ?_) (fun v1 h c s H => ?_)
  · obtain ⟨a, hr, ha, hk, e9⟩ := zv1_ok e
    cases hr
    exact V_invokevirtual (k := 0) eX0_quarrel_2 lmX0_planAt q941 q943 rfl rfl qs25 ha hk (c_X0_planAt e9) (hRet_oR _ _) rfl rfl rfl rfl (kOR k)
  refine V_astore3 rfl eX0_quarrel_5 rfl (zrf_rf _) ?_
  refine V_aload0 eX0_quarrel_6 (zrf_rf _) ?_
  refine V_iload2 eX0_quarrel_7 ?_
  refine D_callR (pc' := 11) (st := []) H (fun v h' c1 s1 e cb sb k => ?_) (fun v2 h c s H => ?_)
  · obtain ⟨a, hr, ha, hk, e9⟩ := zv1_ok e
    cases hr
    exact V_invokevirtual (k := 0) eX0_quarrel_8 lmX0_planAt q941 q943 rfl rfl qs25 ha hk (c_X0_planAt e9) (hRet_oR _ _) rfl rfl rfl rfl (kOR k)
  refine V_astore4 (znl_rf _) eX0_quarrel_11 rfl (zrf_rf _) ?_
  refine V_aload3 eX0_quarrel_13 (zrf_rf _) ?_
  refine V_ifnull eX0_quarrel_14 (fun q => ?_) (fun a q => ?_)
  · have H := zif_t q H
    exact V_fg2 (b_X0_quarrel_22 H) (zfg_n (zfg_n (zfg_n (zfg_n (zfg_n (zfg_n (zfg_n zfg_e)))))))
  · have H := zif_f (zsn q) H
    refine V_aload4 eX0_quarrel_17 (zrf_rf _) ?_
    refine V_ifnonnull eX0_quarrel_19 (fun a q => ?_) (fun q => ?_)
    · have H := zif_f (zsn q) H
      refine V_aload3 eX0_quarrel_24 (zrf_rf _) ?_
      refine V_aload4 eX0_quarrel_25 (zrf_rf _) ?_
      refine V_if_acmpne eX0_quarrel_27 (fun q => ?_) (fun q => ?_)
      · have H := zif_f q H
        refine V_iconst (v := 0) (by decide) eX0_quarrel_33 ?_
        refine V_istore5 (znl_rf _) eX0_quarrel_34 rfl ?_
        exact V_fg2 (b_X0_quarrel_36 _ _ _ _ _ _ _ H) (zfg_n (zfg_n (zfg_n (zfg_k (zfg_k (zfg_k (zfg_n zfg_e)))))))
      · have H := zif_t q H
        refine V_bipush (v := -2) (by decide) eX0_quarrel_30 ?_
        obtain ⟨rfl, rfl, rfl, rfl⟩ := zrt_ok H
        exact V_ireturn eX0_quarrel_32 rfl ⟨rfl, rfl⟩
    · have H := zif_t q H
      exact V_fg2 (b_X0_quarrel_22 H) (zfg_n (zfg_n (zfg_n (zfg_n (zfg_n (zfg_n (zfg_n zfg_e)))))))
def d_X0_mayGo_36 (w : Wd) (F : Nat) (s0 : Int32) : M Int32 :=
  zbd (zgd (s0 = 0 ∨ s0 = 1)) fun _ => zrt s0
def d_X0_mayGo_31 (w : Wd) (F : Nat) : M Int32 :=
  d_X0_mayGo_36 w F (1 : Int32)
def o_X0_mayGo (w : Wd) (F : Nat) (x : Nat) (a1 : Int32) (a2 : Option Nat) (a3 : Option Nat) (a4 : Int32) : M Int32 :=
  zbd (zgR f_X0_kind (some x)) fun v1 =>
  zbd (zaI 0 v1 a1) fun v2 =>
  zif (v2 = (2 : Int32)) (zif (a4 = 0) (zbd (zgI f_X3_cell a2) fun v3 =>
  zif (a1 = v3) (d_X0_mayGo_31 w F)
  (zbd (zgI f_X3_cell a3) fun v4 =>
  zif (a1 = v4) (d_X0_mayGo_31 w F)
  (d_X0_mayGo_36 w F (0 : Int32))))
  (d_X0_mayGo_31 w F))
  (d_X0_mayGo_31 w F)
theorem b_X0_mayGo_36 {w : Wd} {F : Nat} {s0 : Int32} {h h1 : Hp} {y : Int32} {c s : Nat} (H : d_X0_mayGo_36 w F s0 h = some (y, h1, c, s)) : V w mX0_mayGo cX0_mayGo 0 c s h 36 [none, none, none, none, none] [.int s0] (Ro (oI y) h1) := by
  unfold d_X0_mayGo_36 at H
  obtain ⟨q, H⟩ := zgd_ok H
  obtain ⟨rfl, rfl, rfl, rfl⟩ := zrt_ok H
  exact V_zreturn eX0_mayGo_36 rfl q ⟨rfl, rfl⟩
theorem b_X0_mayGo_31 {w : Wd} {F : Nat} {h h1 : Hp} {y : Int32} {c s : Nat} (H : d_X0_mayGo_31 w F h = some (y, h1, c, s)) : V w mX0_mayGo cX0_mayGo 0 c s h 31 [none, none, none, none, none] [] (Ro (oI y) h1) := by
  unfold d_X0_mayGo_31 at H
  refine V_iconst (v := 1) (by decide) eX0_mayGo_31 ?_
  refine V_goto eX0_mayGo_32 ?_
  exact V_fg2 (b_X0_mayGo_36 H) (zfg_n (zfg_n (zfg_n (zfg_n (zfg_n zfg_e)))))
theorem c_X0_mayGo {w : Wd} {F : Nat} {x : Nat} {a1 : Int32} {a2 : Option Nat} {a3 : Option Nat} {a4 : Int32} {h h1 : Hp} {y : Int32} {c s : Nat} (H : o_X0_mayGo w F x a1 a2 a3 a4 h = some (y, h1, c, s)) : Con w mX0_mayGo cX0_mayGo 0 c s [.ref x, .int a1, va_rf a2, va_rf a3, .int a4] h (Ro (oI y) h1) := by
  unfold o_X0_mayGo at H
  refine Con.of (ls := [some (va_rf (some x)), some (.int a1), some (va_rf a2), some (va_rf a3), some (.int a4)]) (by decide +kernel) (by simp only [zsl_r, zsl_i, zsl_l, zsl_n, zsl_a]; rfl) (by simp only [zar_r, zar_i, zar_l, zar_n, zar_a]; rfl) ?_
  refine V_aload0 eX0_mayGo_0 (zrf_rf _) ?_
  refine D_gR eX0_mayGo_1 fq_X0_21_tR H (fun v1 H => ?_)
  refine V_iload1 eX0_mayGo_4 ?_
  refine D_iaload eX0_mayGo_5 H (fun v2 H => ?_)
  refine V_iconst (v := 2) (by decide) eX0_mayGo_6 ?_
  refine V_if_icmpne eX0_mayGo_7 (fun q => ?_) (fun q => ?_)
  · have H := zif_f q H
    exact V_fg2 (b_X0_mayGo_31 H) (zfg_n (zfg_n (zfg_n (zfg_n (zfg_n zfg_e)))))
  · have H := zif_t q H
    refine V_iload4 eX0_mayGo_10 ?_
    refine V_ifne eX0_mayGo_12 (fun q => ?_) (fun q => ?_)
    · have H := zif_f q H
      exact V_fg2 (b_X0_mayGo_31 H) (zfg_n (zfg_n (zfg_n (zfg_n (zfg_n zfg_e)))))
    · have H := zif_t q H
      refine V_iload1 eX0_mayGo_15 ?_
      refine V_aload2 eX0_mayGo_16 (zrf_rf _) ?_
      refine D_gI eX0_mayGo_17 fq_X0_44_tI H (fun v3 H => ?_)
      refine V_if_icmpeq eX0_mayGo_20 (fun q => ?_) (fun q => ?_)
      · have H := zif_t q H
        exact V_fg2 (b_X0_mayGo_31 H) (zfg_n (zfg_n (zfg_n (zfg_n (zfg_n zfg_e)))))
      · have H := zif_f q H
        refine V_iload1 eX0_mayGo_23 ?_
        refine V_aload3 eX0_mayGo_24 (zrf_rf _) ?_
        refine D_gI eX0_mayGo_25 fq_X0_44_tI H (fun v4 H => ?_)
        refine V_if_icmpne eX0_mayGo_28 (fun q => ?_) (fun q => ?_)
        · have H := zif_f q H
          refine V_iconst (v := 0) (by decide) eX0_mayGo_35 ?_
          exact V_fg2 (b_X0_mayGo_36 H) (zfg_n (zfg_n (zfg_n (zfg_n (zfg_n zfg_e)))))
        · have H := zif_t q H
          exact V_fg2 (b_X0_mayGo_31 H) (zfg_n (zfg_n (zfg_n (zfg_n (zfg_n zfg_e)))))
def f_X0_leastMany : Nat → Option Nat := fun k => match k with
  | 0 => some 14
  | _ => none
theorem fq_X0_288_tN : FQ RX0 288 f_X0_leastMany tN := by
  intro k j e
  unfold f_X0_leastMany at e
  split at e
  · cases e; exact ⟨fl_X0_288_0, rfl⟩
  · cases e
theorem fn_X0_findWay_288 : FN mX0_findWay 288 f_X0_leastMany := by
  intro k j e
  unfold f_X0_leastMany at e
  split at e
  · cases e; exact Or.inl rfl
  · cases e
theorem fq_X0_288_tI : FQ RX0 288 f_X0_leastMany tI := by
  intro k j e
  unfold f_X0_leastMany at e
  split at e
  · cases e; exact ⟨fl_X0_288_0, Or.inl rfl⟩
  · cases e
def d_X0_findWay_348 (w : Wd) (F : Nat) (k287 : Int32 → M Int32) (x : Nat) (a2 : Option Nat) (a4 : Int32) (a6 : Int32) (a7 : Int32) : M Int32 :=
  k287 (a7 + (1 : Int32))
def B_X0_findWay_287 (w : Wd) (F : Nat) (k253 : M Int32) (k287 : Int32 → M Int32) (x : Nat) (a2 : Option Nat) (a4 : Int32) (a6 : Int32) (a7 : Int32) : M Int32 :=
  zbd (zgR f_X0_toEnd (some x)) fun v16 =>
  zbd (zaI 0 v16 a7) fun v17 =>
  zif (v17 = (1000000 : Int32)) (d_X0_findWay_348 w F k287 x a2 a4 a6 a7)
  (zbd (o_X0_areBeside w F a6 a7) fun v18 =>
  zif (v18 = 0) (d_X0_findWay_348 w F k287 x a2 a4 a6 a7)
  (zbd (zv1 0 (some x) (fun a => o_X0_rise w F a a6 a7)) fun v19 =>
  zif (a4 < v19) (d_X0_findWay_348 w F k287 x a2 a4 a6 a7)
  (zbd (zgR f_X0_toEnd (some x)) fun v20 =>
  zbd (zaI 0 v20 a7) fun v21 =>
  zbd (zv1 0 (some x) (fun a => o_X0_yards w F a a6 a7)) fun v22 =>
  zbd (zgR f_X0_toEnd (some x)) fun v23 =>
  zbd (zaI 0 v23 a6) fun v24 =>
  zif ((v21 + v22) = v24) (zbd (zgR f_X0_least (some x)) fun v25 =>
  zbd (zgI f_X0_leastMany (some x)) fun v26 =>
  zbd (zpI f_X0_leastMany (some x) (v26 + (1 : Int32))) fun _ =>
  zbd (zsI 0 v25 v26 a7) fun _ =>
  k253)
  (d_X0_findWay_348 w F k287 x a2 a4 a6 a7))))
def d_X0_findWay_287 (w : Wd) (F : Nat) (k253 : M Int32) (x : Nat) (a2 : Option Nat) (a4 : Int32) (a6 : Int32) : Nat → Int32 → M Int32
  | 0, _ => zno
  | n + 1, a7 => B_X0_findWay_287 w F k253 (d_X0_findWay_287 w F k253 x a2 a4 a6 n) x a2 a4 a6 a7
def B_X0_findWay_253 (w : Wd) (F : Nat) (k253 : M Int32) (x : Nat) (a2 : Option Nat) (a4 : Int32) : M Int32 :=
  zbd (zgR f_X0_least (some x)) fun v9 =>
  zbd (zgI f_X0_leastMany (some x)) fun v10 =>
  zbd (zaI 0 v9 (v10 - (1 : Int32))) fun v11 =>
  zbd (zgI f_X3_cell a2) fun v12 =>
  zif (v11 = v12) (zbd (zgd ((1 : Int32) = 0 ∨ (1 : Int32) = 1)) fun _ => zrt (1 : Int32))
  (zbd (zgR f_X0_least (some x)) fun v13 =>
  zbd (zgI f_X0_leastMany (some x)) fun v14 =>
  zbd (zaI 0 v13 (v14 - (1 : Int32))) fun v15 =>
  d_X0_findWay_287 w F k253 x a2 a4 v15 F (0 : Int32))
def d_X0_findWay_253 (w : Wd) (F : Nat) (x : Nat) (a2 : Option Nat) (a4 : Int32) : Nat → M Int32
  | 0 => zno
  | n + 1 => B_X0_findWay_253 w F (d_X0_findWay_253 w F x a2 a4 n) x a2 a4
def d_X0_findWay_197 (w : Wd) (F : Nat) (k87 : Int32 → Int32 → M Int32) (x : Nat) (a1 : Option Nat) (a2 : Option Nat) (a4 : Int32) (a5 : Int32) (a6 : Int32) (a7 : Int32) (a8 : Int32) : M Int32 :=
  k87 a6 (a8 + (1 : Int32))
def B_X0_findWay_87 (w : Wd) (F : Nat) (k77 : Int32 → Int32 → M Int32) (k87 : Int32 → Int32 → M Int32) (x : Nat) (a1 : Option Nat) (a2 : Option Nat) (a4 : Int32) (a5 : Int32) (a7 : Int32) (a6 : Int32) (a8 : Int32) : M Int32 :=
  zif ((80 : Int32) ≤ a8) (k77 a6 (a7 + (1 : Int32)))
  (zbd (zgR f_X0_toEnd (some x)) fun v9 =>
  zbd (zaI 0 v9 a8) fun v10 =>
  zif (v10 = (1000000 : Int32)) (d_X0_findWay_197 w F k87 x a1 a2 a4 a5 a6 a7 a8)
  (zbd (o_X0_areBeside w F a7 a8) fun v11 =>
  zif (v11 = 0) (d_X0_findWay_197 w F k87 x a1 a2 a4 a5 a6 a7 a8)
  (zbd (zv1 0 (some x) (fun a => o_X0_rise w F a a7 a8)) fun v12 =>
  zif (a4 < v12) (d_X0_findWay_197 w F k87 x a1 a2 a4 a5 a6 a7 a8)
  (zbd (zv1 0 (some x) (fun a => o_X0_mayGo w F a a7 a1 a2 a5)) fun v13 =>
  zif (v13 = 0) (d_X0_findWay_197 w F k87 x a1 a2 a4 a5 a6 a7 a8)
  (zbd (zgR f_X0_toEnd (some x)) fun v14 =>
  zbd (zaI 0 v14 a8) fun v15 =>
  zbd (zv1 0 (some x) (fun a => o_X0_yards w F a a7 a8)) fun v16 =>
  zbd (zgR f_X0_toEnd (some x)) fun v17 =>
  zbd (zaI 0 v17 a7) fun v18 =>
  zif ((v15 + v16) < v18) (zbd (zgR f_X0_toEnd (some x)) fun v19 =>
  zbd (zgR f_X0_toEnd (some x)) fun v20 =>
  zbd (zaI 0 v20 a8) fun v21 =>
  zbd (zv1 0 (some x) (fun a => o_X0_yards w F a a7 a8)) fun v22 =>
  zbd (zsI 0 v19 a7 (v21 + v22)) fun _ =>
  d_X0_findWay_197 w F k87 x a1 a2 a4 a5 (1 : Int32) a7 a8)
  (d_X0_findWay_197 w F k87 x a1 a2 a4 a5 a6 a7 a8))))))
def d_X0_findWay_87 (w : Wd) (F : Nat) (k77 : Int32 → Int32 → M Int32) (x : Nat) (a1 : Option Nat) (a2 : Option Nat) (a4 : Int32) (a5 : Int32) (a7 : Int32) : Nat → Int32 → Int32 → M Int32
  | 0, _, _ => zno
  | n + 1, a6, a8 => B_X0_findWay_87 w F k77 (d_X0_findWay_87 w F k77 x a1 a2 a4 a5 a7 n) x a1 a2 a4 a5 a7 a6 a8
def B_X0_findWay_77 (w : Wd) (F : Nat) (k66 : Int32 → M Int32) (k77 : Int32 → Int32 → M Int32) (x : Nat) (a1 : Option Nat) (a2 : Option Nat) (a4 : Int32) (a5 : Int32) (a6 : Int32) (a7 : Int32) : M Int32 :=
  zif ((80 : Int32) ≤ a7) (k66 a6)
  (d_X0_findWay_87 w F k77 x a1 a2 a4 a5 a7 F a6 (0 : Int32))
def d_X0_findWay_77 (w : Wd) (F : Nat) (k66 : Int32 → M Int32) (x : Nat) (a1 : Option Nat) (a2 : Option Nat) (a4 : Int32) (a5 : Int32) : Nat → Int32 → Int32 → M Int32
  | 0, _, _ => zno
  | n + 1, a6, a7 => B_X0_findWay_77 w F k66 (d_X0_findWay_77 w F k66 x a1 a2 a4 a5 n) x a1 a2 a4 a5 a6 a7
def B_X0_findWay_66 (w : Wd) (F : Nat) (k66 : Int32 → M Int32) (x : Nat) (a1 : Option Nat) (a2 : Option Nat) (a4 : Int32) (a5 : Int32) (a6 : Int32) : M Int32 :=
  zif (a6 = 0) (zbd (zpI f_X0_leastMany (some x) (0 : Int32)) fun _ =>
  zbd (zgR f_X0_toEnd (some x)) fun v3 =>
  zbd (zgI f_X3_cell a1) fun v4 =>
  zbd (zaI 0 v3 v4) fun v5 =>
  zif (v5 = (1000000 : Int32)) (zbd (zgd ((0 : Int32) = 0 ∨ (0 : Int32) = 1)) fun _ => zrt (0 : Int32))
  (zbd (zgR f_X0_least (some x)) fun v6 =>
  zbd (zgI f_X0_leastMany (some x)) fun v7 =>
  zbd (zpI f_X0_leastMany (some x) (v7 + (1 : Int32))) fun _ =>
  zbd (zgI f_X3_cell a1) fun v8 =>
  zbd (zsI 0 v6 v7 v8) fun _ =>
  d_X0_findWay_253 w F x a2 a4 F))
  (d_X0_findWay_77 w F k66 x a1 a2 a4 a5 F (0 : Int32) (0 : Int32))
def d_X0_findWay_66 (w : Wd) (F : Nat) (x : Nat) (a1 : Option Nat) (a2 : Option Nat) (a4 : Int32) (a5 : Int32) : Nat → Int32 → M Int32
  | 0, _ => zno
  | n + 1, a6 => B_X0_findWay_66 w F (d_X0_findWay_66 w F x a1 a2 a4 a5 n) x a1 a2 a4 a5 a6
def d_X0_findWay_56 (w : Wd) (F : Nat) (k28 : Int32 → M Int32) (x : Nat) (a1 : Option Nat) (a2 : Option Nat) (a4 : Int32) (a5 : Int32) (a6 : Int32) (s0 : Option Nat) (s1 : Int32) (s2 : Int32) : M Int32 :=
  zbd (zsI 0 s0 s1 s2) fun _ =>
  k28 (a6 + (1 : Int32))
def B_X0_findWay_28 (w : Wd) (F : Nat) (k28 : Int32 → M Int32) (x : Nat) (a1 : Option Nat) (a2 : Option Nat) (a4 : Int32) (a5 : Int32) (a6 : Int32) : M Int32 :=
  zif ((80 : Int32) ≤ a6) (d_X0_findWay_66 w F x a1 a2 a4 a5 F (1 : Int32))
  (zbd (zgR f_X0_toEnd (some x)) fun v3 =>
  zbd (zgI f_X3_cell a2) fun v4 =>
  zif (a6 = v4) (d_X0_findWay_56 w F k28 x a1 a2 a4 a5 a6 v3 a6 (0 : Int32))
  (d_X0_findWay_56 w F k28 x a1 a2 a4 a5 a6 v3 a6 (1000000 : Int32)))
def d_X0_findWay_28 (w : Wd) (F : Nat) (x : Nat) (a1 : Option Nat) (a2 : Option Nat) (a4 : Int32) (a5 : Int32) : Nat → Int32 → M Int32
  | 0, _ => zno
  | n + 1, a6 => B_X0_findWay_28 w F (d_X0_findWay_28 w F x a1 a2 a4 a5 n) x a1 a2 a4 a5 a6
def d_X0_findWay_23 (w : Wd) (F : Nat) (x : Nat) (a1 : Option Nat) (a2 : Option Nat) (a4 : Int32) (s0 : Int32) : M Int32 :=
  d_X0_findWay_28 w F x a1 a2 a4 s0 F (0 : Int32)
def o_X0_findWay (w : Wd) (F : Nat) (x : Nat) (a1 : Option Nat) (a2 : Option Nat) (a3 : Int32) : M Int32 :=
  zbd (zv1 0 (some x) (fun a => o_X0_rule w F a (0 : Int32) a3)) fun v1 =>
  zbd (zv1 0 (some x) (fun a => o_X0_rule w F a (5 : Int32) a3)) fun v2 =>
  zif (v2 = (1 : Int32)) (d_X0_findWay_23 w F x a1 a2 v1 (1 : Int32))
  (d_X0_findWay_23 w F x a1 a2 v1 (0 : Int32))
theorem b_X0_findWay_348 {w : Wd} {F : Nat} {k287 : Int32 → M Int32} {x : Nat} {a2 : Option Nat} {a4 : Int32} {a6 : Int32} (hk287 : ∀ (a7 : Int32) (h : Hp) (y : Int32) (h1 : Hp) (c s : Nat), k287 a7 h = some (y, h1, c, s) → V w mX0_findWay cX0_findWay 7 c s h 287 [some (va_rf (some x)), none, some (va_rf a2), none, some (.int a4), none, some (.int a6), some (.int a7), none] [] (Ro (oI y) h1)) {a7 : Int32} {h h1 : Hp} {y : Int32} {c s : Nat} (H : d_X0_findWay_348 w F k287 x a2 a4 a6 a7 h = some (y, h1, c, s)) : V w mX0_findWay cX0_findWay 7 c s h 348 [some (va_rf (some x)), none, some (va_rf a2), none, some (.int a4), none, some (.int a6), some (.int a7), none] [] (Ro (oI y) h1) := by
  unfold d_X0_findWay_348 at H
  refine V_iinc7 rfl eX0_findWay_348 rfl (v := 1) (by decide) ?_
  refine V_goto eX0_findWay_351 ?_
  exact V_fg2 (hk287 _ _ _ _ _ _ H) (zfg_k (zfg_n (zfg_k (zfg_n (zfg_k (zfg_n (zfg_k (zfg_k (zfg_n zfg_e)))))))))
theorem bB_X0_findWay_287 {w : Wd} {F : Nat} {k253 : M Int32} {k287 : Int32 → M Int32} {x : Nat} {a2 : Option Nat} {a4 : Int32} {a6 : Int32} (hk253 : ∀ (h : Hp) (y : Int32) (h1 : Hp) (c s : Nat), k253 h = some (y, h1, c, s) → V w mX0_findWay cX0_findWay 7 c s h 253 [some (va_rf (some x)), none, some (va_rf a2), none, some (.int a4), none, none, none, none] [] (Ro (oI y) h1)) (hk287 : ∀ (a7 : Int32) (h : Hp) (y : Int32) (h1 : Hp) (c s : Nat), k287 a7 h = some (y, h1, c, s) → V w mX0_findWay cX0_findWay 7 c s h 287 [some (va_rf (some x)), none, some (va_rf a2), none, some (.int a4), none, some (.int a6), some (.int a7), none] [] (Ro (oI y) h1)) {a7 : Int32} {h h1 : Hp} {y : Int32} {c s : Nat} (H : B_X0_findWay_287 w F k253 k287 x a2 a4 a6 a7 h = some (y, h1, c, s)) : V w mX0_findWay cX0_findWay 7 c s h 287 [some (va_rf (some x)), none, some (va_rf a2), none, some (.int a4), none, some (.int a6), some (.int a7), none] [] (Ro (oI y) h1) := by
  unfold B_X0_findWay_287 at H
  refine V_aload0 eX0_findWay_287 (zrf_rf _) ?_
  refine D_gR eX0_findWay_288 fq_X0_148_tR H (fun v16 H => ?_)
  refine V_iload7 eX0_findWay_291 ?_
  refine D_iaload eX0_findWay_293 H (fun v17 H => ?_)
  refine V_ldc (v := 1000000) eX0_findWay_294 q934 ?_
  refine V_if_icmpeq eX0_findWay_296 (fun q => ?_) (fun q => ?_)
  · have H := zif_t q H
    exact V_fg2 (b_X0_findWay_348 hk287 H) (zfg_k (zfg_n (zfg_k (zfg_n (zfg_k (zfg_n (zfg_k (zfg_k (zfg_n zfg_e)))))))))
  · have H := zif_f q H
    refine V_iload6 eX0_findWay_299 ?_
    refine V_iload7 eX0_findWay_301 ?_
    refine D_callI (pc' := 306) (st := []) H (fun v h' c1 s1 e cb sb k => ?_) (fun v18 h c s H => ?_)
    · exact V_invokestatic eX0_findWay_303 lmX0_areBeside q922 q923 (c_X0_areBeside e) (hRet_oI _ _) rfl rfl rfl rfl (kOI k)
    refine V_ifeq eX0_findWay_306 (fun q => ?_) (fun q => ?_)
    · have H := zif_t q H
      exact V_fg2 (b_X0_findWay_348 hk287 H) (zfg_k (zfg_n (zfg_k (zfg_n (zfg_k (zfg_n (zfg_k (zfg_k (zfg_n zfg_e)))))))))
    · have H := zif_f q H
      refine V_aload0 eX0_findWay_309 (zrf_rf _) ?_
      refine V_iload6 eX0_findWay_310 ?_
      refine V_iload7 eX0_findWay_312 ?_
      refine D_callI (pc' := 317) (st := []) H (fun v h' c1 s1 e cb sb k => ?_) (fun v19 h c s H => ?_)
      · obtain ⟨a, hr, ha, hk, e9⟩ := zv1_ok e
        cases hr
        exact V_invokevirtual (k := 0) eX0_findWay_314 lmX0_rise q953 q955 rfl rfl qs28 ha hk (c_X0_rise e9) (hRet_oI _ _) rfl rfl rfl rfl (kOI k)
      refine V_iload4 eX0_findWay_317 ?_
      refine V_if_icmpgt eX0_findWay_319 (fun q => ?_) (fun q => ?_)
      · have H := zif_t q H
        exact V_fg2 (b_X0_findWay_348 hk287 H) (zfg_k (zfg_n (zfg_k (zfg_n (zfg_k (zfg_n (zfg_k (zfg_k (zfg_n zfg_e)))))))))
      · have H := zif_f q H
        refine V_aload0 eX0_findWay_322 (zrf_rf _) ?_
        refine D_gR eX0_findWay_323 fq_X0_148_tR H (fun v20 H => ?_)
        refine V_iload7 eX0_findWay_326 ?_
        refine D_iaload eX0_findWay_328 H (fun v21 H => ?_)
        refine V_aload0 eX0_findWay_329 (zrf_rf _) ?_
        refine V_iload6 eX0_findWay_330 ?_
        refine V_iload7 eX0_findWay_332 ?_
        refine D_callI (pc' := 337) (st := [.int v21]) H (fun v h' c1 s1 e cb sb k => ?_) (fun v22 h c s H => ?_)
        · obtain ⟨a, hr, ha, hk, e9⟩ := zv1_ok e
          cases hr
          exact V_invokevirtual (k := 0) eX0_findWay_334 lmX0_yards q949 q951 rfl rfl qs27 ha hk (c_X0_yards e9) (hRet_oI _ _) rfl rfl rfl rfl (kOI k)
        refine V_iadd eX0_findWay_337 ?_
        refine V_aload0 eX0_findWay_338 (zrf_rf _) ?_
        refine D_gR eX0_findWay_339 fq_X0_148_tR H (fun v23 H => ?_)
        refine V_iload6 eX0_findWay_342 ?_
        refine D_iaload eX0_findWay_344 H (fun v24 H => ?_)
        refine V_if_icmpeq eX0_findWay_345 (fun q => ?_) (fun q => ?_)
        · have H := zif_t q H
          refine V_aload0 eX0_findWay_354 (zrf_rf _) ?_
          refine D_gR eX0_findWay_355 fq_X0_151_tR H (fun v25 H => ?_)
          refine V_aload0 eX0_findWay_358 (zrf_rf _) ?_
          refine V_dup (zcr _) eX0_findWay_359 ?_
          refine D_gI eX0_findWay_360 fq_X0_288_tI H (fun v26 H => ?_)
          refine V_dup_x1 rfl (zcr _) eX0_findWay_363 ?_
          refine V_iconst (v := 1) (by decide) eX0_findWay_364 ?_
          refine V_iadd eX0_findWay_365 ?_
          refine D_pI eX0_findWay_366 fq_X0_288_tN fn_X0_findWay_288 H (fun h H => ?_)
          refine V_iload7 eX0_findWay_369 ?_
          refine D_iastore eX0_findWay_371 H (fun h H => ?_)
          refine V_goto eX0_findWay_372 ?_
          exact V_fg2 (hk253 _ _ _ _ _ H) (zfg_k (zfg_n (zfg_k (zfg_n (zfg_k (zfg_n (zfg_n (zfg_n (zfg_n zfg_e)))))))))
        · have H := zif_f q H
          exact V_fg2 (b_X0_findWay_348 hk287 H) (zfg_k (zfg_n (zfg_k (zfg_n (zfg_k (zfg_n (zfg_k (zfg_k (zfg_n zfg_e)))))))))
theorem b_X0_findWay_287 {w : Wd} {F : Nat} {k253 : M Int32} {x : Nat} {a2 : Option Nat} {a4 : Int32} {a6 : Int32} (hk253 : ∀ (h : Hp) (y : Int32) (h1 : Hp) (c s : Nat), k253 h = some (y, h1, c, s) → V w mX0_findWay cX0_findWay 7 c s h 253 [some (va_rf (some x)), none, some (va_rf a2), none, some (.int a4), none, none, none, none] [] (Ro (oI y) h1)) : ∀ (n : Nat) (a7 : Int32) (h : Hp) (y : Int32) (h1 : Hp) (c s : Nat), d_X0_findWay_287 w F k253 x a2 a4 a6 n a7 h = some (y, h1, c, s) → V w mX0_findWay cX0_findWay 7 c s h 287 [some (va_rf (some x)), none, some (va_rf a2), none, some (.int a4), none, some (.int a6), some (.int a7), none] [] (Ro (oI y) h1) := by
  intro n
  induction n with
  | zero => intro a7 h y h1 c s H; exact zno_no H
  | succ n ih => intro a7 h y h1 c s H; exact bB_X0_findWay_287 hk253 ih H
theorem bB_X0_findWay_253 {w : Wd} {F : Nat} {k253 : M Int32} {x : Nat} {a2 : Option Nat} {a4 : Int32} (hk253 : ∀ (h : Hp) (y : Int32) (h1 : Hp) (c s : Nat), k253 h = some (y, h1, c, s) → V w mX0_findWay cX0_findWay 7 c s h 253 [some (va_rf (some x)), none, some (va_rf a2), none, some (.int a4), none, none, none, none] [] (Ro (oI y) h1)) {h h1 : Hp} {y : Int32} {c s : Nat} (H : B_X0_findWay_253 w F k253 x a2 a4 h = some (y, h1, c, s)) : V w mX0_findWay cX0_findWay 7 c s h 253 [some (va_rf (some x)), none, some (va_rf a2), none, some (.int a4), none, none, none, none] [] (Ro (oI y) h1) := by
  unfold B_X0_findWay_253 at H
  refine V_aload0 eX0_findWay_253 (zrf_rf _) ?_
  refine D_gR eX0_findWay_254 fq_X0_151_tR H (fun v9 H => ?_)
  refine V_aload0 eX0_findWay_257 (zrf_rf _) ?_
  refine D_gI eX0_findWay_258 fq_X0_288_tI H (fun v10 H => ?_)
  refine V_iconst (v := 1) (by decide) eX0_findWay_261 ?_
  refine V_isub eX0_findWay_262 ?_
  refine D_iaload eX0_findWay_263 H (fun v11 H => ?_)
  refine V_aload2 eX0_findWay_264 (zrf_rf _) ?_
  refine D_gI eX0_findWay_265 fq_X0_44_tI H (fun v12 H => ?_)
  refine V_if_icmpeq eX0_findWay_268 (fun q => ?_) (fun q => ?_)
  · have H := zif_t q H
    refine V_iconst (v := 1) (by decide) eX0_findWay_375 ?_
    obtain ⟨q, H⟩ := zgd_ok H
    obtain ⟨rfl, rfl, rfl, rfl⟩ := zrt_ok H
    exact V_zreturn eX0_findWay_376 rfl q ⟨rfl, rfl⟩
  · have H := zif_f q H
    refine V_aload0 eX0_findWay_271 (zrf_rf _) ?_
    refine D_gR eX0_findWay_272 fq_X0_151_tR H (fun v13 H => ?_)
    refine V_aload0 eX0_findWay_275 (zrf_rf _) ?_
    refine D_gI eX0_findWay_276 fq_X0_288_tI H (fun v14 H => ?_)
    refine V_iconst (v := 1) (by decide) eX0_findWay_279 ?_
    refine V_isub eX0_findWay_280 ?_
    refine D_iaload eX0_findWay_281 H (fun v15 H => ?_)
    refine V_istore6 rfl eX0_findWay_282 rfl ?_
    refine V_iconst (v := 0) (by decide) eX0_findWay_284 ?_
    refine V_istore7 rfl eX0_findWay_285 rfl ?_
    exact V_fg2 (b_X0_findWay_287 hk253 _ _ _ _ _ _ _ H) (zfg_k (zfg_n (zfg_k (zfg_n (zfg_k (zfg_n (zfg_k (zfg_k (zfg_n zfg_e)))))))))
theorem b_X0_findWay_253 {w : Wd} {F : Nat} {x : Nat} {a2 : Option Nat} {a4 : Int32} : ∀ (n : Nat) (h : Hp) (y : Int32) (h1 : Hp) (c s : Nat), d_X0_findWay_253 w F x a2 a4 n h = some (y, h1, c, s) → V w mX0_findWay cX0_findWay 7 c s h 253 [some (va_rf (some x)), none, some (va_rf a2), none, some (.int a4), none, none, none, none] [] (Ro (oI y) h1) := by
  intro n
  induction n with
  | zero => intro  h y h1 c s H; exact zno_no H
  | succ n ih => intro  h y h1 c s H; exact bB_X0_findWay_253 ih H
theorem b_X0_findWay_197 {w : Wd} {F : Nat} {k87 : Int32 → Int32 → M Int32} {x : Nat} {a1 : Option Nat} {a2 : Option Nat} {a4 : Int32} {a5 : Int32} {a7 : Int32} (hk87 : ∀ (a6 : Int32) (a8 : Int32) (h : Hp) (y : Int32) (h1 : Hp) (c s : Nat), k87 a6 a8 h = some (y, h1, c, s) → V w mX0_findWay cX0_findWay 7 c s h 87 [some (va_rf (some x)), some (va_rf a1), some (va_rf a2), none, some (.int a4), some (.int a5), some (.int a6), some (.int a7), some (.int a8)] [] (Ro (oI y) h1)) {a6 : Int32} {a8 : Int32} {h h1 : Hp} {y : Int32} {c s : Nat} (H : d_X0_findWay_197 w F k87 x a1 a2 a4 a5 a6 a7 a8 h = some (y, h1, c, s)) : V w mX0_findWay cX0_findWay 7 c s h 197 [some (va_rf (some x)), some (va_rf a1), some (va_rf a2), none, some (.int a4), some (.int a5), some (.int a6), some (.int a7), some (.int a8)] [] (Ro (oI y) h1) := by
  unfold d_X0_findWay_197 at H
  refine V_iinc8 rfl eX0_findWay_197 rfl (v := 1) (by decide) ?_
  refine V_goto eX0_findWay_200 ?_
  exact V_fg2 (hk87 _ _ _ _ _ _ _ H) (zfg_k (zfg_k (zfg_k (zfg_n (zfg_k (zfg_k (zfg_k (zfg_k (zfg_k zfg_e)))))))))
theorem bB_X0_findWay_87 {w : Wd} {F : Nat} {k77 : Int32 → Int32 → M Int32} {k87 : Int32 → Int32 → M Int32} {x : Nat} {a1 : Option Nat} {a2 : Option Nat} {a4 : Int32} {a5 : Int32} {a7 : Int32} (hk77 : ∀ (a6 : Int32) (a7 : Int32) (h : Hp) (y : Int32) (h1 : Hp) (c s : Nat), k77 a6 a7 h = some (y, h1, c, s) → V w mX0_findWay cX0_findWay 7 c s h 77 [some (va_rf (some x)), some (va_rf a1), some (va_rf a2), none, some (.int a4), some (.int a5), some (.int a6), some (.int a7), none] [] (Ro (oI y) h1)) (hk87 : ∀ (a6 : Int32) (a8 : Int32) (h : Hp) (y : Int32) (h1 : Hp) (c s : Nat), k87 a6 a8 h = some (y, h1, c, s) → V w mX0_findWay cX0_findWay 7 c s h 87 [some (va_rf (some x)), some (va_rf a1), some (va_rf a2), none, some (.int a4), some (.int a5), some (.int a6), some (.int a7), some (.int a8)] [] (Ro (oI y) h1)) {a6 : Int32} {a8 : Int32} {h h1 : Hp} {y : Int32} {c s : Nat} (H : B_X0_findWay_87 w F k77 k87 x a1 a2 a4 a5 a7 a6 a8 h = some (y, h1, c, s)) : V w mX0_findWay cX0_findWay 7 c s h 87 [some (va_rf (some x)), some (va_rf a1), some (va_rf a2), none, some (.int a4), some (.int a5), some (.int a6), some (.int a7), some (.int a8)] [] (Ro (oI y) h1) := by
  unfold B_X0_findWay_87 at H
  refine V_iload8 eX0_findWay_87 ?_
  refine V_bipush (v := 80) (by decide) eX0_findWay_89 ?_
  refine V_if_icmpge eX0_findWay_91 (fun q => ?_) (fun q => ?_)
  · have H := zif_t q H
    refine V_iinc7 rfl eX0_findWay_203 rfl (v := 1) (by decide) ?_
    refine V_goto eX0_findWay_206 ?_
    exact V_fg2 (hk77 _ _ _ _ _ _ _ H) (zfg_k (zfg_k (zfg_k (zfg_n (zfg_k (zfg_k (zfg_k (zfg_k (zfg_n zfg_e)))))))))
  · have H := zif_f q H
    refine V_aload0 eX0_findWay_94 (zrf_rf _) ?_
    refine D_gR eX0_findWay_95 fq_X0_148_tR H (fun v9 H => ?_)
    refine V_iload8 eX0_findWay_98 ?_
    refine D_iaload eX0_findWay_100 H (fun v10 H => ?_)
    refine V_ldc (v := 1000000) eX0_findWay_101 q934 ?_
    refine V_if_icmpeq eX0_findWay_103 (fun q => ?_) (fun q => ?_)
    · have H := zif_t q H
      exact V_fg2 (b_X0_findWay_197 hk87 H) (zfg_k (zfg_k (zfg_k (zfg_n (zfg_k (zfg_k (zfg_k (zfg_k (zfg_k zfg_e)))))))))
    · have H := zif_f q H
      refine V_iload7 eX0_findWay_106 ?_
      refine V_iload8 eX0_findWay_108 ?_
      refine D_callI (pc' := 113) (st := []) H (fun v h' c1 s1 e cb sb k => ?_) (fun v11 h c s H => ?_)
      · exact V_invokestatic eX0_findWay_110 lmX0_areBeside q922 q923 (c_X0_areBeside e) (hRet_oI _ _) rfl rfl rfl rfl (kOI k)
      refine V_ifeq eX0_findWay_113 (fun q => ?_) (fun q => ?_)
      · have H := zif_t q H
        exact V_fg2 (b_X0_findWay_197 hk87 H) (zfg_k (zfg_k (zfg_k (zfg_n (zfg_k (zfg_k (zfg_k (zfg_k (zfg_k zfg_e)))))))))
      · have H := zif_f q H
        refine V_aload0 eX0_findWay_116 (zrf_rf _) ?_
        refine V_iload7 eX0_findWay_117 ?_
        refine V_iload8 eX0_findWay_119 ?_
        refine D_callI (pc' := 124) (st := []) H (fun v h' c1 s1 e cb sb k => ?_) (fun v12 h c s H => ?_)
        · obtain ⟨a, hr, ha, hk, e9⟩ := zv1_ok e
          cases hr
          exact V_invokevirtual (k := 0) eX0_findWay_121 lmX0_rise q953 q955 rfl rfl qs28 ha hk (c_X0_rise e9) (hRet_oI _ _) rfl rfl rfl rfl (kOI k)
        refine V_iload4 eX0_findWay_124 ?_
        refine V_if_icmpgt eX0_findWay_126 (fun q => ?_) (fun q => ?_)
        · have H := zif_t q H
          exact V_fg2 (b_X0_findWay_197 hk87 H) (zfg_k (zfg_k (zfg_k (zfg_n (zfg_k (zfg_k (zfg_k (zfg_k (zfg_k zfg_e)))))))))
        · have H := zif_f q H
          refine V_aload0 eX0_findWay_129 (zrf_rf _) ?_
          refine V_iload7 eX0_findWay_130 ?_
          refine V_aload1 eX0_findWay_132 (zrf_rf _) ?_
          refine V_aload2 eX0_findWay_133 (zrf_rf _) ?_
          refine V_iload5 eX0_findWay_134 ?_
          refine D_callI (pc' := 139) (st := []) H (fun v h' c1 s1 e cb sb k => ?_) (fun v13 h c s H => ?_)
          · obtain ⟨a, hr, ha, hk, e9⟩ := zv1_ok e
            cases hr
            exact V_invokevirtual (k := 0) eX0_findWay_136 lmX0_mayGo q985 q987 rfl rfl qs32 ha hk (c_X0_mayGo e9) (hRet_oI _ _) rfl rfl rfl rfl (kOI k)
          refine V_ifeq eX0_findWay_139 (fun q => ?_) (fun q => ?_)
          · have H := zif_t q H
            exact V_fg2 (b_X0_findWay_197 hk87 H) (zfg_k (zfg_k (zfg_k (zfg_n (zfg_k (zfg_k (zfg_k (zfg_k (zfg_k zfg_e)))))))))
          · have H := zif_f q H
            refine V_aload0 eX0_findWay_142 (zrf_rf _) ?_
            refine D_gR eX0_findWay_143 fq_X0_148_tR H (fun v14 H => ?_)
            refine V_iload8 eX0_findWay_146 ?_
            refine D_iaload eX0_findWay_148 H (fun v15 H => ?_)
            refine V_aload0 eX0_findWay_149 (zrf_rf _) ?_
            refine V_iload7 eX0_findWay_150 ?_
            refine V_iload8 eX0_findWay_152 ?_
            refine D_callI (pc' := 157) (st := [.int v15]) H (fun v h' c1 s1 e cb sb k => ?_) (fun v16 h c s H => ?_)
            · obtain ⟨a, hr, ha, hk, e9⟩ := zv1_ok e
              cases hr
              exact V_invokevirtual (k := 0) eX0_findWay_154 lmX0_yards q949 q951 rfl rfl qs27 ha hk (c_X0_yards e9) (hRet_oI _ _) rfl rfl rfl rfl (kOI k)
            refine V_iadd eX0_findWay_157 ?_
            refine V_aload0 eX0_findWay_158 (zrf_rf _) ?_
            refine D_gR eX0_findWay_159 fq_X0_148_tR H (fun v17 H => ?_)
            refine V_iload7 eX0_findWay_162 ?_
            refine D_iaload eX0_findWay_164 H (fun v18 H => ?_)
            refine V_if_icmplt eX0_findWay_165 (fun q => ?_) (fun q => ?_)
            · have H := zif_t q H
              refine V_aload0 eX0_findWay_171 (zrf_rf _) ?_
              refine D_gR eX0_findWay_172 fq_X0_148_tR H (fun v19 H => ?_)
              refine V_iload7 eX0_findWay_175 ?_
              refine V_aload0 eX0_findWay_177 (zrf_rf _) ?_
              refine D_gR eX0_findWay_178 fq_X0_148_tR H (fun v20 H => ?_)
              refine V_iload8 eX0_findWay_181 ?_
              refine D_iaload eX0_findWay_183 H (fun v21 H => ?_)
              refine V_aload0 eX0_findWay_184 (zrf_rf _) ?_
              refine V_iload7 eX0_findWay_185 ?_
              refine V_iload8 eX0_findWay_187 ?_
              refine D_callI (pc' := 192) (st := [.int v21, .int a7, va_rf v19]) H (fun v h' c1 s1 e cb sb k => ?_) (fun v22 h c s H => ?_)
              · obtain ⟨a, hr, ha, hk, e9⟩ := zv1_ok e
                cases hr
                exact V_invokevirtual (k := 0) eX0_findWay_189 lmX0_yards q949 q951 rfl rfl qs27 ha hk (c_X0_yards e9) (hRet_oI _ _) rfl rfl rfl (by simp only [List.map_cons, List.map_nil, zcr]; rfl) (kOI k)
              refine V_iadd eX0_findWay_192 ?_
              refine D_iastore eX0_findWay_193 H (fun h H => ?_)
              refine V_iconst (v := 1) (by decide) eX0_findWay_194 ?_
              refine V_istore6 rfl eX0_findWay_195 rfl ?_
              exact V_fg2 (b_X0_findWay_197 hk87 H) (zfg_k (zfg_k (zfg_k (zfg_n (zfg_k (zfg_k (zfg_k (zfg_k (zfg_k zfg_e)))))))))
            · have H := zif_f q H
              refine V_goto eX0_findWay_168 ?_
              exact V_fg2 (b_X0_findWay_197 hk87 H) (zfg_k (zfg_k (zfg_k (zfg_n (zfg_k (zfg_k (zfg_k (zfg_k (zfg_k zfg_e)))))))))
theorem b_X0_findWay_87 {w : Wd} {F : Nat} {k77 : Int32 → Int32 → M Int32} {x : Nat} {a1 : Option Nat} {a2 : Option Nat} {a4 : Int32} {a5 : Int32} {a7 : Int32} (hk77 : ∀ (a6 : Int32) (a7 : Int32) (h : Hp) (y : Int32) (h1 : Hp) (c s : Nat), k77 a6 a7 h = some (y, h1, c, s) → V w mX0_findWay cX0_findWay 7 c s h 77 [some (va_rf (some x)), some (va_rf a1), some (va_rf a2), none, some (.int a4), some (.int a5), some (.int a6), some (.int a7), none] [] (Ro (oI y) h1)) : ∀ (n : Nat) (a6 : Int32) (a8 : Int32) (h : Hp) (y : Int32) (h1 : Hp) (c s : Nat), d_X0_findWay_87 w F k77 x a1 a2 a4 a5 a7 n a6 a8 h = some (y, h1, c, s) → V w mX0_findWay cX0_findWay 7 c s h 87 [some (va_rf (some x)), some (va_rf a1), some (va_rf a2), none, some (.int a4), some (.int a5), some (.int a6), some (.int a7), some (.int a8)] [] (Ro (oI y) h1) := by
  intro n
  induction n with
  | zero => intro a6 a8 h y h1 c s H; exact zno_no H
  | succ n ih => intro a6 a8 h y h1 c s H; exact bB_X0_findWay_87 hk77 ih H
theorem bB_X0_findWay_77 {w : Wd} {F : Nat} {k66 : Int32 → M Int32} {k77 : Int32 → Int32 → M Int32} {x : Nat} {a1 : Option Nat} {a2 : Option Nat} {a4 : Int32} {a5 : Int32} (hk66 : ∀ (a6 : Int32) (h : Hp) (y : Int32) (h1 : Hp) (c s : Nat), k66 a6 h = some (y, h1, c, s) → V w mX0_findWay cX0_findWay 7 c s h 66 [some (va_rf (some x)), some (va_rf a1), some (va_rf a2), none, some (.int a4), some (.int a5), some (.int a6), none, none] [] (Ro (oI y) h1)) (hk77 : ∀ (a6 : Int32) (a7 : Int32) (h : Hp) (y : Int32) (h1 : Hp) (c s : Nat), k77 a6 a7 h = some (y, h1, c, s) → V w mX0_findWay cX0_findWay 7 c s h 77 [some (va_rf (some x)), some (va_rf a1), some (va_rf a2), none, some (.int a4), some (.int a5), some (.int a6), some (.int a7), none] [] (Ro (oI y) h1)) {a6 : Int32} {a7 : Int32} {h h1 : Hp} {y : Int32} {c s : Nat} (H : B_X0_findWay_77 w F k66 k77 x a1 a2 a4 a5 a6 a7 h = some (y, h1, c, s)) : V w mX0_findWay cX0_findWay 7 c s h 77 [some (va_rf (some x)), some (va_rf a1), some (va_rf a2), none, some (.int a4), some (.int a5), some (.int a6), some (.int a7), none] [] (Ro (oI y) h1) := by
  unfold B_X0_findWay_77 at H
  refine V_iload7 eX0_findWay_77 ?_
  refine V_bipush (v := 80) (by decide) eX0_findWay_79 ?_
  refine V_if_icmpge eX0_findWay_81 (fun q => ?_) (fun q => ?_)
  · have H := zif_t q H
    refine V_goto eX0_findWay_209 ?_
    exact V_fg2 (hk66 _ _ _ _ _ _ H) (zfg_k (zfg_k (zfg_k (zfg_n (zfg_k (zfg_k (zfg_k (zfg_n (zfg_n zfg_e)))))))))
  · have H := zif_f q H
    refine V_iconst (v := 0) (by decide) eX0_findWay_84 ?_
    refine V_istore8 rfl eX0_findWay_85 rfl ?_
    exact V_fg2 (b_X0_findWay_87 hk77 _ _ _ _ _ _ _ _ H) (zfg_k (zfg_k (zfg_k (zfg_n (zfg_k (zfg_k (zfg_k (zfg_k (zfg_k zfg_e)))))))))
theorem b_X0_findWay_77 {w : Wd} {F : Nat} {k66 : Int32 → M Int32} {x : Nat} {a1 : Option Nat} {a2 : Option Nat} {a4 : Int32} {a5 : Int32} (hk66 : ∀ (a6 : Int32) (h : Hp) (y : Int32) (h1 : Hp) (c s : Nat), k66 a6 h = some (y, h1, c, s) → V w mX0_findWay cX0_findWay 7 c s h 66 [some (va_rf (some x)), some (va_rf a1), some (va_rf a2), none, some (.int a4), some (.int a5), some (.int a6), none, none] [] (Ro (oI y) h1)) : ∀ (n : Nat) (a6 : Int32) (a7 : Int32) (h : Hp) (y : Int32) (h1 : Hp) (c s : Nat), d_X0_findWay_77 w F k66 x a1 a2 a4 a5 n a6 a7 h = some (y, h1, c, s) → V w mX0_findWay cX0_findWay 7 c s h 77 [some (va_rf (some x)), some (va_rf a1), some (va_rf a2), none, some (.int a4), some (.int a5), some (.int a6), some (.int a7), none] [] (Ro (oI y) h1) := by
  intro n
  induction n with
  | zero => intro a6 a7 h y h1 c s H; exact zno_no H
  | succ n ih => intro a6 a7 h y h1 c s H; exact bB_X0_findWay_77 hk66 ih H
theorem bB_X0_findWay_66 {w : Wd} {F : Nat} {k66 : Int32 → M Int32} {x : Nat} {a1 : Option Nat} {a2 : Option Nat} {a4 : Int32} {a5 : Int32} (hk66 : ∀ (a6 : Int32) (h : Hp) (y : Int32) (h1 : Hp) (c s : Nat), k66 a6 h = some (y, h1, c, s) → V w mX0_findWay cX0_findWay 7 c s h 66 [some (va_rf (some x)), some (va_rf a1), some (va_rf a2), none, some (.int a4), some (.int a5), some (.int a6), none, none] [] (Ro (oI y) h1)) {a6 : Int32} {h h1 : Hp} {y : Int32} {c s : Nat} (H : B_X0_findWay_66 w F k66 x a1 a2 a4 a5 a6 h = some (y, h1, c, s)) : V w mX0_findWay cX0_findWay 7 c s h 66 [some (va_rf (some x)), some (va_rf a1), some (va_rf a2), none, some (.int a4), some (.int a5), some (.int a6), none, none] [] (Ro (oI y) h1) := by
  unfold B_X0_findWay_66 at H
  refine V_iload6 eX0_findWay_66 ?_
  refine V_ifeq eX0_findWay_68 (fun q => ?_) (fun q => ?_)
  · have H := zif_t q H
    refine V_aload0 eX0_findWay_212 (zrf_rf _) ?_
    refine V_iconst (v := 0) (by decide) eX0_findWay_213 ?_
    refine D_pI eX0_findWay_214 fq_X0_288_tN fn_X0_findWay_288 H (fun h H => ?_)
    refine V_aload0 eX0_findWay_217 (zrf_rf _) ?_
    refine D_gR eX0_findWay_218 fq_X0_148_tR H (fun v3 H => ?_)
    refine V_aload1 eX0_findWay_221 (zrf_rf _) ?_
    refine D_gI eX0_findWay_222 fq_X0_44_tI H (fun v4 H => ?_)
    refine D_iaload eX0_findWay_225 H (fun v5 H => ?_)
    refine V_ldc (v := 1000000) eX0_findWay_226 q934 ?_
    refine V_if_icmpne eX0_findWay_228 (fun q => ?_) (fun q => ?_)
    · have H := zif_f q H
      refine V_aload0 eX0_findWay_233 (zrf_rf _) ?_
      refine D_gR eX0_findWay_234 fq_X0_151_tR H (fun v6 H => ?_)
      refine V_aload0 eX0_findWay_237 (zrf_rf _) ?_
      refine V_dup (zcr _) eX0_findWay_238 ?_
      refine D_gI eX0_findWay_239 fq_X0_288_tI H (fun v7 H => ?_)
      refine V_dup_x1 rfl (zcr _) eX0_findWay_242 ?_
      refine V_iconst (v := 1) (by decide) eX0_findWay_243 ?_
      refine V_iadd eX0_findWay_244 ?_
      refine D_pI eX0_findWay_245 fq_X0_288_tN fn_X0_findWay_288 H (fun h H => ?_)
      refine V_aload1 eX0_findWay_248 (zrf_rf _) ?_
      refine D_gI eX0_findWay_249 fq_X0_44_tI H (fun v8 H => ?_)
      refine D_iastore eX0_findWay_252 H (fun h H => ?_)
      exact V_fg2 (b_X0_findWay_253 _ _ _ _ _ _ H) (zfg_k (zfg_n (zfg_k (zfg_n (zfg_k (zfg_n (zfg_n (zfg_n (zfg_n zfg_e)))))))))
    · have H := zif_t q H
      refine V_iconst (v := 0) (by decide) eX0_findWay_231 ?_
      obtain ⟨q, H⟩ := zgd_ok H
      obtain ⟨rfl, rfl, rfl, rfl⟩ := zrt_ok H
      exact V_zreturn eX0_findWay_232 rfl q ⟨rfl, rfl⟩
  · have H := zif_f q H
    refine V_iconst (v := 0) (by decide) eX0_findWay_71 ?_
    refine V_istore6 rfl eX0_findWay_72 rfl ?_
    refine V_iconst (v := 0) (by decide) eX0_findWay_74 ?_
    refine V_istore7 rfl eX0_findWay_75 rfl ?_
    exact V_fg2 (b_X0_findWay_77 hk66 _ _ _ _ _ _ _ _ H) (zfg_k (zfg_k (zfg_k (zfg_n (zfg_k (zfg_k (zfg_k (zfg_k (zfg_n zfg_e)))))))))
theorem b_X0_findWay_66 {w : Wd} {F : Nat} {x : Nat} {a1 : Option Nat} {a2 : Option Nat} {a4 : Int32} {a5 : Int32} : ∀ (n : Nat) (a6 : Int32) (h : Hp) (y : Int32) (h1 : Hp) (c s : Nat), d_X0_findWay_66 w F x a1 a2 a4 a5 n a6 h = some (y, h1, c, s) → V w mX0_findWay cX0_findWay 7 c s h 66 [some (va_rf (some x)), some (va_rf a1), some (va_rf a2), none, some (.int a4), some (.int a5), some (.int a6), none, none] [] (Ro (oI y) h1) := by
  intro n
  induction n with
  | zero => intro a6 h y h1 c s H; exact zno_no H
  | succ n ih => intro a6 h y h1 c s H; exact bB_X0_findWay_66 ih H
theorem b_X0_findWay_56 {w : Wd} {F : Nat} {k28 : Int32 → M Int32} {x : Nat} {a1 : Option Nat} {a2 : Option Nat} {a4 : Int32} {a5 : Int32} (hk28 : ∀ (a6 : Int32) (h : Hp) (y : Int32) (h1 : Hp) (c s : Nat), k28 a6 h = some (y, h1, c, s) → V w mX0_findWay cX0_findWay 7 c s h 28 [some (va_rf (some x)), some (va_rf a1), some (va_rf a2), none, some (.int a4), some (.int a5), some (.int a6), none, none] [] (Ro (oI y) h1)) {a6 : Int32} {s0 : Option Nat} {s1 : Int32} {s2 : Int32} {h h1 : Hp} {y : Int32} {c s : Nat} (H : d_X0_findWay_56 w F k28 x a1 a2 a4 a5 a6 s0 s1 s2 h = some (y, h1, c, s)) : V w mX0_findWay cX0_findWay 7 c s h 56 [some (va_rf (some x)), some (va_rf a1), some (va_rf a2), none, some (.int a4), some (.int a5), some (.int a6), none, none] [.int s2, .int s1, va_rf s0] (Ro (oI y) h1) := by
  unfold d_X0_findWay_56 at H
  refine D_iastore eX0_findWay_56 H (fun h H => ?_)
  refine V_iinc6 rfl eX0_findWay_57 rfl (v := 1) (by decide) ?_
  refine V_goto eX0_findWay_60 ?_
  exact V_fg2 (hk28 _ _ _ _ _ _ H) (zfg_k (zfg_k (zfg_k (zfg_n (zfg_k (zfg_k (zfg_k (zfg_n (zfg_n zfg_e)))))))))
theorem bB_X0_findWay_28 {w : Wd} {F : Nat} {k28 : Int32 → M Int32} {x : Nat} {a1 : Option Nat} {a2 : Option Nat} {a4 : Int32} {a5 : Int32} (hk28 : ∀ (a6 : Int32) (h : Hp) (y : Int32) (h1 : Hp) (c s : Nat), k28 a6 h = some (y, h1, c, s) → V w mX0_findWay cX0_findWay 7 c s h 28 [some (va_rf (some x)), some (va_rf a1), some (va_rf a2), none, some (.int a4), some (.int a5), some (.int a6), none, none] [] (Ro (oI y) h1)) {a6 : Int32} {h h1 : Hp} {y : Int32} {c s : Nat} (H : B_X0_findWay_28 w F k28 x a1 a2 a4 a5 a6 h = some (y, h1, c, s)) : V w mX0_findWay cX0_findWay 7 c s h 28 [some (va_rf (some x)), some (va_rf a1), some (va_rf a2), none, some (.int a4), some (.int a5), some (.int a6), none, none] [] (Ro (oI y) h1) := by
  unfold B_X0_findWay_28 at H
  refine V_iload6 eX0_findWay_28 ?_
  refine V_bipush (v := 80) (by decide) eX0_findWay_30 ?_
  refine V_if_icmpge eX0_findWay_32 (fun q => ?_) (fun q => ?_)
  · have H := zif_t q H
    refine V_iconst (v := 1) (by decide) eX0_findWay_63 ?_
    refine V_istore6 rfl eX0_findWay_64 rfl ?_
    exact V_fg2 (b_X0_findWay_66 _ _ _ _ _ _ _ H) (zfg_k (zfg_k (zfg_k (zfg_n (zfg_k (zfg_k (zfg_k (zfg_n (zfg_n zfg_e)))))))))
  · have H := zif_f q H
    refine V_aload0 eX0_findWay_35 (zrf_rf _) ?_
    refine D_gR eX0_findWay_36 fq_X0_148_tR H (fun v3 H => ?_)
    refine V_iload6 eX0_findWay_39 ?_
    refine V_iload6 eX0_findWay_41 ?_
    refine V_aload2 eX0_findWay_43 (zrf_rf _) ?_
    refine D_gI eX0_findWay_44 fq_X0_44_tI H (fun v4 H => ?_)
    refine V_if_icmpne eX0_findWay_47 (fun q => ?_) (fun q => ?_)
    · have H := zif_f q H
      refine V_ldc (v := 1000000) eX0_findWay_54 q934 ?_
      exact V_fg2 (b_X0_findWay_56 hk28 H) (zfg_k (zfg_k (zfg_k (zfg_n (zfg_k (zfg_k (zfg_k (zfg_n (zfg_n zfg_e)))))))))
    · have H := zif_t q H
      refine V_iconst (v := 0) (by decide) eX0_findWay_50 ?_
      refine V_goto eX0_findWay_51 ?_
      exact V_fg2 (b_X0_findWay_56 hk28 H) (zfg_k (zfg_k (zfg_k (zfg_n (zfg_k (zfg_k (zfg_k (zfg_n (zfg_n zfg_e)))))))))
theorem b_X0_findWay_28 {w : Wd} {F : Nat} {x : Nat} {a1 : Option Nat} {a2 : Option Nat} {a4 : Int32} {a5 : Int32} : ∀ (n : Nat) (a6 : Int32) (h : Hp) (y : Int32) (h1 : Hp) (c s : Nat), d_X0_findWay_28 w F x a1 a2 a4 a5 n a6 h = some (y, h1, c, s) → V w mX0_findWay cX0_findWay 7 c s h 28 [some (va_rf (some x)), some (va_rf a1), some (va_rf a2), none, some (.int a4), some (.int a5), some (.int a6), none, none] [] (Ro (oI y) h1) := by
  intro n
  induction n with
  | zero => intro a6 h y h1 c s H; exact zno_no H
  | succ n ih => intro a6 h y h1 c s H; exact bB_X0_findWay_28 ih H
theorem b_X0_findWay_23 {w : Wd} {F : Nat} {x : Nat} {a1 : Option Nat} {a2 : Option Nat} {a4 : Int32} {s0 : Int32} {h h1 : Hp} {y : Int32} {c s : Nat} (H : d_X0_findWay_23 w F x a1 a2 a4 s0 h = some (y, h1, c, s)) : V w mX0_findWay cX0_findWay 7 c s h 23 [some (va_rf (some x)), some (va_rf a1), some (va_rf a2), none, some (.int a4), none, none, none, none] [.int s0] (Ro (oI y) h1) := by
  unfold d_X0_findWay_23 at H
  refine V_istore5 rfl eX0_findWay_23 rfl ?_
  refine V_iconst (v := 0) (by decide) eX0_findWay_25 ?_
  refine V_istore6 rfl eX0_findWay_26 rfl ?_
  exact V_fg2 (b_X0_findWay_28 _ _ _ _ _ _ _ H) (zfg_k (zfg_k (zfg_k (zfg_n (zfg_k (zfg_k (zfg_k (zfg_n (zfg_n zfg_e)))))))))
theorem c_X0_findWay {w : Wd} {F : Nat} {x : Nat} {a1 : Option Nat} {a2 : Option Nat} {a3 : Int32} {h h1 : Hp} {y : Int32} {c s : Nat} (H : o_X0_findWay w F x a1 a2 a3 h = some (y, h1, c, s)) : Con w mX0_findWay cX0_findWay 7 c s [.ref x, va_rf a1, va_rf a2, .int a3] h (Ro (oI y) h1) := by
  unfold o_X0_findWay at H
  refine Con.of (ls := [some (va_rf (some x)), some (va_rf a1), some (va_rf a2), some (.int a3), none, none, none, none, none]) (by decide +kernel) (by simp only [zsl_r, zsl_i, zsl_l, zsl_n, zsl_a]; rfl) (by simp only [zar_r, zar_i, zar_l, zar_n, zar_a]; rfl) ?_
  refine V_aload0 eX0_findWay_0 (zrf_rf _) ?_
  refine V_iconst (v := 0) (by decide) eX0_findWay_1 ?_
  refine V_iload3 eX0_findWay_2 ?_
  refine D_callI (pc' := 6) (st := []) H (fun v h' c1 s1 e cb sb k => ?_) (fun v1 h c s H => ?_)
  · obtain ⟨a, hr, ha, hk, e9⟩ := zv1_ok e
    cases hr
    exact V_invokevirtual (k := 0) eX0_findWay_3 lmX0_rule q529 q531 rfl rfl qs15 ha hk (c_X0_rule e9) (hRet_oI _ _) rfl rfl rfl rfl (kOI k)
  refine V_istore4 rfl eX0_findWay_6 rfl ?_
  refine V_aload0 eX0_findWay_8 (zrf_rf _) ?_
  refine V_iconst (v := 5) (by decide) eX0_findWay_9 ?_
  refine V_iload3 eX0_findWay_10 ?_
  refine D_callI (pc' := 14) (st := []) H (fun v h' c1 s1 e cb sb k => ?_) (fun v2 h c s H => ?_)
  · obtain ⟨a, hr, ha, hk, e9⟩ := zv1_ok e
    cases hr
    exact V_invokevirtual (k := 0) eX0_findWay_11 lmX0_rule q529 q531 rfl rfl qs15 ha hk (c_X0_rule e9) (hRet_oI _ _) rfl rfl rfl rfl (kOI k)
  refine V_iconst (v := 1) (by decide) eX0_findWay_14 ?_
  refine V_if_icmpne eX0_findWay_15 (fun q => ?_) (fun q => ?_)
  · have H := zif_f q H
    refine V_iconst (v := 0) (by decide) eX0_findWay_22 ?_
    exact V_fg2 (b_X0_findWay_23 H) (zfg_k (zfg_k (zfg_k (zfg_n (zfg_k (zfg_n (zfg_n (zfg_n (zfg_n zfg_e)))))))))
  · have H := zif_t q H
    refine V_iconst (v := 1) (by decide) eX0_findWay_18 ?_
    refine V_goto eX0_findWay_19 ?_
    exact V_fg2 (b_X0_findWay_23 H) (zfg_k (zfg_k (zfg_k (zfg_n (zfg_k (zfg_n (zfg_n (zfg_n (zfg_n zfg_e)))))))))
