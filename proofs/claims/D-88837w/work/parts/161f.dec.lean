set_option maxRecDepth 100000
def d_X0_slope_32 (w : Wd) (F : Nat) : M Int32 :=
  zrt (-1 : Int32)
def d_X0_slope_46 (w : Wd) (F : Nat) : M Int32 :=
  zrt (-2 : Int32)
def d_X0_slope_148 (w : Wd) (F : Nat) (s0 : Int32) : M Int32 :=
  zrt s0
def o_X0_slope (w : Wd) (F : Nat) (x : Nat) (a1 : Int32) (a2 : Int32) (a3 : Int32) (a4 : Int32) : M Int32 :=
  zbd (zv1 0 (some x) (fun a => o_X0_townAt w F a a1)) fun v1 =>
  zif (v1 = none) (d_X0_slope_32 w F)
  (zbd (zv1 0 (some x) (fun a => o_X0_townAt w F a a2)) fun v2 =>
  zif (v2 = none) (d_X0_slope_32 w F)
  (zif (a4 < 0) (d_X0_slope_32 w F)
  (zbd (o_X0_in w F a4 (2 : Int32) (9 : Int32)) fun v3 =>
  zif (v3 = 0) (zif (a1 = a2) (d_X0_slope_46 w F)
  (zbd (o_X0_isDay w F a3) fun v4 =>
  zif (v4 = 0) (d_X0_slope_46 w F)
  (zbd (zgR f_X0_towns (some x)) fun v5 =>
  zbd (zv1 30 v5 (fun a => o_J2_get w F a a1)) fun v6 =>
  zbd (zcc y_X3 v6) fun _ =>
  zbd (zgR f_X0_towns (some x)) fun v7 =>
  zbd (zv1 30 v7 (fun a => o_J2_get w F a a2)) fun v8 =>
  zbd (zcc y_X3 v8) fun _ =>
  zbd (zv1 0 (some x) (fun a => o_X0_findWay w F a v6 v8 a3)) fun v9 =>
  zif (v9 = 0) (zrt (-5 : Int32))
  (zif (a4 = 0) (zbd (zgR f_X0_toEnd (some x)) fun v14 =>
  zbd (zgR f_X0_towns (some x)) fun v15 =>
  zbd (zv1 30 v15 (fun a => o_J2_get w F a a1)) fun v16 =>
  zbd (zcc y_X3 v16) fun _ =>
  zbd (zgI f_X3_cell v16) fun v17 =>
  zbd (zaI 0 v14 v17) fun v18 =>
  d_X0_slope_148 w F v18)
  (zif (a4 = (1 : Int32)) (zbd (zgI f_X0_leastMany (some x)) fun v13 =>
  d_X0_slope_148 w F v13)
  (zbd (zgI f_X0_leastMany (some x)) fun v10 =>
  zif (v10 ≤ (a4 - (10 : Int32))) (d_X0_slope_148 w F (-1 : Int32))
  (zbd (zgR f_X0_least (some x)) fun v11 =>
  zbd (zaI 0 v11 (a4 - (10 : Int32))) fun v12 =>
  d_X0_slope_148 w F v12)))))))
  (d_X0_slope_32 w F))))
theorem b_X0_slope_32 {w : Wd} {F : Nat} {h h1 : Hp} {y : Int32} {c s : Nat} (H : d_X0_slope_32 w F h = some (y, h1, c, s)) : V w mX0_slope cX0_slope 8 c s h 32 [none, none, none, none, none] [] (Ro (oI y) h1) := by
  unfold d_X0_slope_32 at H
  refine V_iconst (v := -1) (by decide) eX0_slope_32 ?_
  obtain ⟨rfl, rfl, rfl, rfl⟩ := zrt_ok H
  exact V_ireturn eX0_slope_33 rfl ⟨rfl, rfl⟩
theorem b_X0_slope_46 {w : Wd} {F : Nat} {h h1 : Hp} {y : Int32} {c s : Nat} (H : d_X0_slope_46 w F h = some (y, h1, c, s)) : V w mX0_slope cX0_slope 8 c s h 46 [none, none, none, none, none] [] (Ro (oI y) h1) := by
  unfold d_X0_slope_46 at H
  refine V_bipush (v := -2) (by decide) eX0_slope_46 ?_
  obtain ⟨rfl, rfl, rfl, rfl⟩ := zrt_ok H
  exact V_ireturn eX0_slope_48 rfl ⟨rfl, rfl⟩
theorem b_X0_slope_148 {w : Wd} {F : Nat} {s0 : Int32} {h h1 : Hp} {y : Int32} {c s : Nat} (H : d_X0_slope_148 w F s0 h = some (y, h1, c, s)) : V w mX0_slope cX0_slope 8 c s h 148 [none, none, none, none, none] [.int s0] (Ro (oI y) h1) := by
  unfold d_X0_slope_148 at H
  obtain ⟨rfl, rfl, rfl, rfl⟩ := zrt_ok H
  exact V_ireturn eX0_slope_148 rfl ⟨rfl, rfl⟩
theorem c_X0_slope {w : Wd} {F : Nat} {x : Nat} {a1 : Int32} {a2 : Int32} {a3 : Int32} {a4 : Int32} {h h1 : Hp} {y : Int32} {c s : Nat} (H : o_X0_slope w F x a1 a2 a3 a4 h = some (y, h1, c, s)) : Con w mX0_slope cX0_slope 8 c s [.ref x, .int a1, .int a2, .int a3, .int a4] h (Ro (oI y) h1) := by
  unfold o_X0_slope at H
  refine Con.of (ls := [some (va_rf (some x)), some (.int a1), some (.int a2), some (.int a3), some (.int a4)]) (by decide +kernel) rfl rfl ?_
  refine V_aload0 eX0_slope_0 (zrf_rf _) ?_
  refine V_iload1 eX0_slope_1 ?_
  refine D_callR (pc' := 5) (st := []) H (fun v h' c1 s1 e cb sb k => ?_) (fun v1 h c s H => ?_)
  · obtain ⟨a, hr, ha, hk, e9⟩ := zv1_ok e
    cases hr
    exact V_invokevirtual (k := 0) eX0_slope_2 lmX0_townAt q701 q703 rfl rfl qs18 ha hk (c_X0_townAt e9) (hRet_oR _ _) rfl rfl rfl rfl (kOR k)
  refine V_ifnull eX0_slope_5 (fun q => ?_) (fun a q => ?_)
  · have H := zif_t q H
    exact V_fg2 (b_X0_slope_32 H) (zfg_n (zfg_n (zfg_n (zfg_n (zfg_n zfg_e)))))
  · have H := zif_f (zsn q) H
    refine V_aload0 eX0_slope_8 (zrf_rf _) ?_
    refine V_iload2 eX0_slope_9 ?_
    refine D_callR (pc' := 13) (st := []) H (fun v h' c1 s1 e cb sb k => ?_) (fun v2 h c s H => ?_)
    · obtain ⟨a, hr, ha, hk, e9⟩ := zv1_ok e
      cases hr
      exact V_invokevirtual (k := 0) eX0_slope_10 lmX0_townAt q701 q703 rfl rfl qs18 ha hk (c_X0_townAt e9) (hRet_oR _ _) rfl rfl rfl rfl (kOR k)
    refine V_ifnull eX0_slope_13 (fun q => ?_) (fun a q => ?_)
    · have H := zif_t q H
      exact V_fg2 (b_X0_slope_32 H) (zfg_n (zfg_n (zfg_n (zfg_n (zfg_n zfg_e)))))
    · have H := zif_f (zsn q) H
      refine V_iload4 eX0_slope_16 ?_
      refine V_iflt eX0_slope_18 (fun q => ?_) (fun q => ?_)
      · have H := zif_t q H
        exact V_fg2 (b_X0_slope_32 H) (zfg_n (zfg_n (zfg_n (zfg_n (zfg_n zfg_e)))))
      · have H := zif_f q H
        refine V_iload4 eX0_slope_21 ?_
        refine V_iconst (v := 2) (by decide) eX0_slope_23 ?_
        refine V_bipush (v := 9) (by decide) eX0_slope_24 ?_
        refine D_callI (pc' := 29) (st := []) H (fun v h' c1 s1 e cb sb k => ?_) (fun v3 h c s H => ?_)
        · exact V_invokestatic eX0_slope_26 lmX0_in q149 q150 (c_X0_in e) (hRet_oI _ _) rfl rfl rfl rfl (kOI k)
        refine V_ifeq eX0_slope_29 (fun q => ?_) (fun q => ?_)
        · have H := zif_t q H
          refine V_iload1 eX0_slope_34 ?_
          refine V_iload2 eX0_slope_35 ?_
          refine V_if_icmpeq eX0_slope_36 (fun q => ?_) (fun q => ?_)
          · have H := zif_t q H
            exact V_fg2 (b_X0_slope_46 H) (zfg_n (zfg_n (zfg_n (zfg_n (zfg_n zfg_e)))))
          · have H := zif_f q H
            refine V_iload3 eX0_slope_39 ?_
            refine D_callI (pc' := 43) (st := []) H (fun v h' c1 s1 e cb sb k => ?_) (fun v4 h c s H => ?_)
            · exact V_invokestatic eX0_slope_40 lmX0_isDay q293 q294 (c_X0_isDay e) (hRet_oI _ _) rfl rfl rfl rfl (kOI k)
            refine V_ifne eX0_slope_43 (fun q => ?_) (fun q => ?_)
            · have H := zif_f q H
              refine V_aload0 eX0_slope_49 (zrf_rf _) ?_
              refine V_aload0 eX0_slope_50 (zrf_rf _) ?_
              refine D_gR eX0_slope_51 fq_X0_28_tR H (fun v5 H => ?_)
              refine V_iload1 eX0_slope_54 ?_
              refine D_callR (pc' := 58) (st := [va_rf (some x)]) H (fun v h' c1 s1 e cb sb k => ?_) (fun v6 h c s H => ?_)
              · obtain ⟨a, hr, ha, hk, e9⟩ := zv1_ok e
                cases hr
                exact V_invokevirtual (k := 30) eX0_slope_55 lmJ2_get q160 q161 rfl rfl q162 ha hk (c_J2_get e9) (hRet_oR _ _) rfl rfl rfl (by simp only [List.map_cons, List.map_nil, zcr]; rfl) (kOR k)
              refine D_cast eX0_slope_58 q174 y_X3_ok H (fun H => ?_)
              refine V_aload0 eX0_slope_61 (zrf_rf _) ?_
              refine D_gR eX0_slope_62 fq_X0_28_tR H (fun v7 H => ?_)
              refine V_iload2 eX0_slope_65 ?_
              refine D_callR (pc' := 69) (st := [va_rf v6, va_rf (some x)]) H (fun v h' c1 s1 e cb sb k => ?_) (fun v8 h c s H => ?_)
              · obtain ⟨a, hr, ha, hk, e9⟩ := zv1_ok e
                cases hr
                exact V_invokevirtual (k := 30) eX0_slope_66 lmJ2_get q160 q161 rfl rfl q162 ha hk (c_J2_get e9) (hRet_oR _ _) rfl rfl rfl (by simp only [List.map_cons, List.map_nil, zcr]; rfl) (kOR k)
              refine D_cast eX0_slope_69 q174 y_X3_ok H (fun H => ?_)
              refine V_iload3 eX0_slope_72 ?_
              refine D_callI (pc' := 76) (st := []) H (fun v h' c1 s1 e cb sb k => ?_) (fun v9 h c s H => ?_)
              · obtain ⟨a, hr, ha, hk, e9⟩ := zv1_ok e
                cases hr
                exact V_invokevirtual (k := 0) eX0_slope_73 lmX0_findWay q981 q983 rfl rfl qs31 ha hk (c_X0_findWay e9) (hRet_oI _ _) rfl rfl rfl rfl (kOI k)
              refine V_ifne eX0_slope_76 (fun q => ?_) (fun q => ?_)
              · have H := zif_f q H
                refine V_iload4 eX0_slope_82 ?_
                refine V_ifne eX0_slope_84 (fun q => ?_) (fun q => ?_)
                · have H := zif_f q H
                  refine V_iload4 eX0_slope_109 ?_
                  refine V_iconst (v := 1) (by decide) eX0_slope_111 ?_
                  refine V_if_icmpne eX0_slope_112 (fun q => ?_) (fun q => ?_)
                  · have H := zif_f q H
                    refine V_iload4 eX0_slope_122 ?_
                    refine V_bipush (v := 10) (by decide) eX0_slope_124 ?_
                    refine V_isub eX0_slope_126 ?_
                    refine V_aload0 eX0_slope_127 (zrf_rf _) ?_
                    refine D_gI eX0_slope_128 fq_X0_288_tI H (fun v10 H => ?_)
                    refine V_if_icmpge eX0_slope_131 (fun q => ?_) (fun q => ?_)
                    · have H := zif_t q H
                      refine V_iconst (v := -1) (by decide) eX0_slope_147 ?_
                      exact V_fg2 (b_X0_slope_148 H) (zfg_n (zfg_n (zfg_n (zfg_n (zfg_n zfg_e)))))
                    · have H := zif_f q H
                      refine V_aload0 eX0_slope_134 (zrf_rf _) ?_
                      refine D_gR eX0_slope_135 fq_X0_151_tR H (fun v11 H => ?_)
                      refine V_iload4 eX0_slope_138 ?_
                      refine V_bipush (v := 10) (by decide) eX0_slope_140 ?_
                      refine V_isub eX0_slope_142 ?_
                      refine D_iaload eX0_slope_143 H (fun v12 H => ?_)
                      refine V_goto eX0_slope_144 ?_
                      exact V_fg2 (b_X0_slope_148 H) (zfg_n (zfg_n (zfg_n (zfg_n (zfg_n zfg_e)))))
                  · have H := zif_t q H
                    refine V_aload0 eX0_slope_115 (zrf_rf _) ?_
                    refine D_gI eX0_slope_116 fq_X0_288_tI H (fun v13 H => ?_)
                    refine V_goto eX0_slope_119 ?_
                    exact V_fg2 (b_X0_slope_148 H) (zfg_n (zfg_n (zfg_n (zfg_n (zfg_n zfg_e)))))
                · have H := zif_t q H
                  refine V_aload0 eX0_slope_87 (zrf_rf _) ?_
                  refine D_gR eX0_slope_88 fq_X0_148_tR H (fun v14 H => ?_)
                  refine V_aload0 eX0_slope_91 (zrf_rf _) ?_
                  refine D_gR eX0_slope_92 fq_X0_28_tR H (fun v15 H => ?_)
                  refine V_iload1 eX0_slope_95 ?_
                  refine D_callR (pc' := 99) (st := [va_rf v14]) H (fun v h' c1 s1 e cb sb k => ?_) (fun v16 h c s H => ?_)
                  · obtain ⟨a, hr, ha, hk, e9⟩ := zv1_ok e
                    cases hr
                    exact V_invokevirtual (k := 30) eX0_slope_96 lmJ2_get q160 q161 rfl rfl q162 ha hk (c_J2_get e9) (hRet_oR _ _) rfl rfl rfl (by simp only [List.map_cons, List.map_nil, zcr]; rfl) (kOR k)
                  refine D_cast eX0_slope_99 q174 y_X3_ok H (fun H => ?_)
                  refine D_gI eX0_slope_102 fq_X0_44_tI H (fun v17 H => ?_)
                  refine D_iaload eX0_slope_105 H (fun v18 H => ?_)
                  refine V_goto eX0_slope_106 ?_
                  exact V_fg2 (b_X0_slope_148 H) (zfg_n (zfg_n (zfg_n (zfg_n (zfg_n zfg_e)))))
              · have H := zif_t q H
                refine V_bipush (v := -5) (by decide) eX0_slope_79 ?_
                obtain ⟨rfl, rfl, rfl, rfl⟩ := zrt_ok H
                exact V_ireturn eX0_slope_81 rfl ⟨rfl, rfl⟩
            · have H := zif_t q H
              exact V_fg2 (b_X0_slope_46 H) (zfg_n (zfg_n (zfg_n (zfg_n (zfg_n zfg_e)))))
        · have H := zif_f q H
          exact V_fg2 (b_X0_slope_32 H) (zfg_n (zfg_n (zfg_n (zfg_n (zfg_n zfg_e)))))
def f_X17_cell : Nat → Option Nat := fun k => match k with
  | 17 => some 2
  | _ => none
theorem fq_X17_7_tN : FQ RX17 7 f_X17_cell tN := by
  intro k j e
  unfold f_X17_cell at e
  split at e
  · cases e; exact ⟨fl_X17_7_17, rfl⟩
  · cases e
theorem fn_X17_init_7 : FN mX17_init 7 f_X17_cell := by
  intro k j e
  unfold f_X17_cell at e
  split at e
  · cases e; exact Or.inr ⟨rfl, rfl, rfl, _, q999, rfl⟩
  · cases e
def f_X17_coins : Nat → Option Nat := fun k => match k with
  | 17 => some 3
  | _ => none
theorem fq_X17_13_tN : FQ RX17 13 f_X17_coins tN := by
  intro k j e
  unfold f_X17_coins at e
  split at e
  · cases e; exact ⟨fl_X17_13_17, rfl⟩
  · cases e
theorem fn_X17_init_13 : FN mX17_init 13 f_X17_coins := by
  intro k j e
  unfold f_X17_coins at e
  split at e
  · cases e; exact Or.inr ⟨rfl, rfl, rfl, _, q1001, rfl⟩
  · cases e
def o_X17_init (w : Wd) (F : Nat) (x : Nat) (a1 : Int32) (a2 : Int32) (a3 : Int32) (a4 : Int32) : M Unit :=
  zbd (o_X12_init w F x a1 a2) fun _ =>
  zbd (zpI f_X17_cell (some x) a3) fun _ =>
  zbd (zpI f_X17_coins (some x) a4) fun _ =>
  zrt ()
theorem c_X17_init {w : Wd} {F : Nat} {x : Nat} {a1 : Int32} {a2 : Int32} {a3 : Int32} {a4 : Int32} {h h1 : Hp} {y : Unit} {c s : Nat} (H : o_X17_init w F x a1 a2 a3 a4 h = some (y, h1, c, s)) : Con w mX17_init cX17_init 2 c s [.ref x, .int a1, .int a2, .int a3, .int a4] h (Ro (oU y) h1) := by
  unfold o_X17_init at H
  refine Con.of (ls := [some (va_rf (some x)), some (.int a1), some (.int a2), some (.int a3), some (.int a4)]) (by decide +kernel) rfl rfl ?_
  refine V_aload0 eX17_init_0 (zrf_rf _) ?_
  refine V_iload1 eX17_init_1 ?_
  refine V_iload2 eX17_init_2 ?_
  refine D_callU (pc' := 6) (st := []) H (fun v h' c1 s1 e cb sb k => ?_) (fun v1 h c s H => ?_)
  · exact V_invokeinit eX17_init_3 lmX12_init rfl rfl q998 q715 (c_X12_init e) (hRet_oU _ _) rfl rfl rfl rfl (kOU k)
  refine V_aload0 eX17_init_6 (zrf_rf _) ?_
  refine V_iload3 eX17_init_7 ?_
  refine D_pI eX17_init_8 fq_X17_7_tN fn_X17_init_7 H (fun h H => ?_)
  refine V_aload0 eX17_init_11 (zrf_rf _) ?_
  refine V_iload4 eX17_init_12 ?_
  refine D_pI eX17_init_14 fq_X17_13_tN fn_X17_init_13 H (fun h H => ?_)
  obtain ⟨rfl, rfl, rfl, rfl⟩ := zrt_ok H
  exact V_return (x := ()) eX17_init_17 rfl ⟨rfl, rfl⟩
def d_X0_claim_59 (w : Wd) (F : Nat) (s0 : Int32) : M Int32 :=
  zrt s0
def o_X0_claim (w : Wd) (F : Nat) (x : Nat) (a1 : Int32) (a2 : Int32) : M Int32 :=
  zbd (o_X0_isCell w F a1) fun v1 =>
  zif (v1 = 0) (zrt (-1 : Int32))
  (zbd (o_X0_in w F a2 (1 : Int32) (9999 : Int32)) fun v2 =>
  zif (v2 = 0) (zrt (-2 : Int32))
  (zbd (zv1 0 (some x) (fun a => o_X0_isFull w F a)) fun v3 =>
  zif (v3 = 0) (zbd (znw 17 0 4) fun n4 =>
  zbd (zgR f_X0_papers (some x)) fun v5 =>
  zbd (zv1 30 v5 (fun a => o_J2_size w F a)) fun v6 =>
  zbd (zgI f_X0_today (some x)) fun v7 =>
  zbd (znn n4 (fun a => o_X17_init w F a v6 v7 a1 a2)) fun _ =>
  zbd (zv1 0 (some x) (fun a => o_X0_add w F a n4)) fun v9 =>
  d_X0_claim_59 w F v9)
  (d_X0_claim_59 w F (-4 : Int32))))
theorem b_X0_claim_59 {w : Wd} {F : Nat} {s0 : Int32} {h h1 : Hp} {y : Int32} {c s : Nat} (H : d_X0_claim_59 w F s0 h = some (y, h1, c, s)) : V w mX0_claim cX0_claim 8 c s h 59 [none, none, none] [.int s0] (Ro (oI y) h1) := by
  unfold d_X0_claim_59 at H
  obtain ⟨rfl, rfl, rfl, rfl⟩ := zrt_ok H
  exact V_ireturn eX0_claim_59 rfl ⟨rfl, rfl⟩
theorem c_X0_claim {w : Wd} {F : Nat} {x : Nat} {a1 : Int32} {a2 : Int32} {h h1 : Hp} {y : Int32} {c s : Nat} (H : o_X0_claim w F x a1 a2 h = some (y, h1, c, s)) : Con w mX0_claim cX0_claim 8 c s [.ref x, .int a1, .int a2] h (Ro (oI y) h1) := by
  unfold o_X0_claim at H
  refine Con.of (ls := [some (va_rf (some x)), some (.int a1), some (.int a2)]) (by decide +kernel) rfl rfl ?_
  refine V_iload1 eX0_claim_0 ?_
  refine D_callI (pc' := 4) (st := []) H (fun v h' c1 s1 e cb sb k => ?_) (fun v1 h c s H => ?_)
  · exact V_invokestatic eX0_claim_1 lmX0_isCell q146 q147 (c_X0_isCell e) (hRet_oI _ _) rfl rfl rfl rfl (kOI k)
  refine V_ifne eX0_claim_4 (fun q => ?_) (fun q => ?_)
  · have H := zif_f q H
    refine V_iload2 eX0_claim_9 ?_
    refine V_iconst (v := 1) (by decide) eX0_claim_10 ?_
    refine V_sipush (v := 9999) (by decide) eX0_claim_11 ?_
    refine D_callI (pc' := 17) (st := []) H (fun v h' c1 s1 e cb sb k => ?_) (fun v2 h c s H => ?_)
    · exact V_invokestatic eX0_claim_14 lmX0_in q149 q150 (c_X0_in e) (hRet_oI _ _) rfl rfl rfl rfl (kOI k)
    refine V_ifne eX0_claim_17 (fun q => ?_) (fun q => ?_)
    · have H := zif_f q H
      refine V_aload0 eX0_claim_23 (zrf_rf _) ?_
      refine D_callI (pc' := 27) (st := []) H (fun v h' c1 s1 e cb sb k => ?_) (fun v3 h c s H => ?_)
      · obtain ⟨a, hr, ha, hk, e9⟩ := zv1_ok e
        cases hr
        exact V_invokevirtual (k := 0) eX0_claim_24 lmX0_isFull q705 q707 rfl rfl qs19 ha hk (c_X0_isFull e9) (hRet_oI _ _) rfl rfl rfl rfl (kOI k)
      refine V_ifeq eX0_claim_27 (fun q => ?_) (fun q => ?_)
      · have H := zif_t q H
        refine V_aload0 eX0_claim_35 (zrf_rf _) ?_
        refine D_new (g := 0) eX0_claim_36 nl_X0_295 rfl H (fun n4 h c s H => ?_)
        refine V_dup (zcr _) eX0_claim_39 ?_
        refine V_aload0 eX0_claim_40 (zrf_rf _) ?_
        refine D_gR eX0_claim_41 fq_X0_121_tR H (fun v5 H => ?_)
        refine D_callI (pc' := 47) (st := [va_rf n4, va_rf n4, va_rf (some x)]) H (fun v h' c1 s1 e cb sb k => ?_) (fun v6 h c s H => ?_)
        · obtain ⟨a, hr, ha, hk, e9⟩ := zv1_ok e
          cases hr
          exact V_invokevirtual (k := 30) eX0_claim_44 lmJ2_size q156 q157 rfl rfl q158 ha hk (c_J2_size e9) (hRet_oI _ _) rfl rfl rfl (by simp only [List.map_cons, List.map_nil, zcr]; rfl) (kOI k)
        refine V_aload0 eX0_claim_47 (zrf_rf _) ?_
        refine D_gI eX0_claim_48 fq_X0_194_tI H (fun v7 H => ?_)
        refine V_iload1 eX0_claim_51 ?_
        refine V_iload2 eX0_claim_52 ?_
        refine D_callU (pc' := 56) (st := [va_rf n4, va_rf (some x)]) H (fun v h' c1 s1 e cb sb k => ?_) (fun v8 h c s H => ?_)
        · obtain ⟨a, hr, e9⟩ := znn_ok e
          cases hr
          exact V_invokeinit eX0_claim_53 lmX17_init rfl rfl q995 q996 (c_X17_init e9) (hRet_oU _ _) rfl rfl rfl (by simp only [List.map_cons, List.map_nil, zcr]; rfl) (kOU k)
        refine D_callI (pc' := 59) (st := []) H (fun v h' c1 s1 e cb sb k => ?_) (fun v9 h c s H => ?_)
        · obtain ⟨a, hr, ha, hk, e9⟩ := zv1_ok e
          cases hr
          exact V_invokevirtual (k := 0) eX0_claim_56 lmX0_add q793 q795 rfl rfl qs20 ha hk (c_X0_add e9) (hRet_oI _ _) rfl rfl rfl rfl (kOI k)
        exact V_fg2 (b_X0_claim_59 H) (zfg_n (zfg_n (zfg_n zfg_e)))
      · have H := zif_f q H
        refine V_bipush (v := -4) (by decide) eX0_claim_30 ?_
        refine V_goto eX0_claim_32 ?_
        exact V_fg2 (b_X0_claim_59 H) (zfg_n (zfg_n (zfg_n zfg_e)))
    · have H := zif_t q H
      refine V_bipush (v := -2) (by decide) eX0_claim_20 ?_
      obtain ⟨rfl, rfl, rfl, rfl⟩ := zrt_ok H
      exact V_ireturn eX0_claim_22 rfl ⟨rfl, rfl⟩
  · have H := zif_t q H
    refine V_iconst (v := -1) (by decide) eX0_claim_7 ?_
    obtain ⟨rfl, rfl, rfl, rfl⟩ := zrt_ok H
    exact V_ireturn eX0_claim_8 rfl ⟨rfl, rfl⟩
def f_X15_scheme : Nat → Option Nat := fun k => match k with
  | 15 => some 12
  | 18 => some 12
  | _ => none
theorem fq_X18_3_tR : FQ RX18 3 f_X15_scheme tR := by
  intro k j e
  unfold f_X15_scheme at e
  split at e
  · cases e; exact ⟨fl_X18_3_15, Or.inl ⟨_, rfl⟩⟩
  · cases e; exact ⟨fl_X18_3_18, Or.inl ⟨_, rfl⟩⟩
  · cases e
def f_X18_doneOn : Nat → Option Nat := fun k => match k with
  | 18 => some 16
  | _ => none
theorem fq_X18_15_tN : FQ RX18 15 f_X18_doneOn tN := by
  intro k j e
  unfold f_X18_doneOn at e
  split at e
  · cases e; exact ⟨fl_X18_15_18, rfl⟩
  · cases e
theorem fn_X18_init_15 : FN mX18_init 15 f_X18_doneOn := by
  intro k j e
  unfold f_X18_doneOn at e
  split at e
  · cases e; exact Or.inl rfl
  · cases e
def f_X18_plan : Nat → Option Nat := fun k => match k with
  | 18 => some 13
  | _ => none
theorem fq_X18_21_tR : FQ RX18 21 f_X18_plan tR := by
  intro k j e
  unfold f_X18_plan at e
  split at e
  · cases e; exact ⟨fl_X18_21_18, Or.inl ⟨_, rfl⟩⟩
  · cases e
theorem fn_X18_init_21 : FN mX18_init 21 f_X18_plan := by
  intro k j e
  unfold f_X18_plan at e
  split at e
  · cases e; exact Or.inr ⟨rfl, rfl, rfl, _, q1020, rfl⟩
  · cases e
def o_X18_init (w : Wd) (F : Nat) (x : Nat) (a1 : Int32) (a2 : Int32) (a3 : Option Nat) : M Unit :=
  zbd (zgR f_X15_scheme a3) fun v1 =>
  zbd (o_X14_init w F x a1 a2 v1) fun _ =>
  zbd (zpI f_X18_doneOn (some x) (-5 : Int32)) fun _ =>
  zbd (zpR f_X18_plan (some x) a3) fun _ =>
  zrt ()
theorem c_X18_init {w : Wd} {F : Nat} {x : Nat} {a1 : Int32} {a2 : Int32} {a3 : Option Nat} {h h1 : Hp} {y : Unit} {c s : Nat} (H : o_X18_init w F x a1 a2 a3 h = some (y, h1, c, s)) : Con w mX18_init cX18_init 4 c s [.ref x, .int a1, .int a2, va_rf a3] h (Ro (oU y) h1) := by
  unfold o_X18_init at H
  refine Con.of (ls := [some (va_rf (some x)), some (.int a1), some (.int a2), some (va_rf a3)]) (by decide +kernel) (by simp only [zsl_r, zsl_i, zsl_l, zsl_n, zsl_a]; rfl) (by simp only [zar_r, zar_i, zar_l, zar_n, zar_a]; rfl) ?_
  refine V_aload0 eX18_init_0 (zrf_rf _) ?_
  refine V_iload1 eX18_init_1 ?_
  refine V_iload2 eX18_init_2 ?_
  refine V_aload3 eX18_init_3 (zrf_rf _) ?_
  refine D_gR eX18_init_4 fq_X18_3_tR H (fun v1 H => ?_)
  refine D_callU (pc' := 10) (st := []) H (fun v h' c1 s1 e cb sb k => ?_) (fun v2 h c s H => ?_)
  · exact V_invokeinit eX18_init_7 lmX14_init rfl rfl q1019 q832 (c_X14_init e) (hRet_oU _ _) rfl rfl rfl rfl (kOU k)
  refine V_aload0 eX18_init_10 (zrf_rf _) ?_
  refine V_bipush (v := -5) (by decide) eX18_init_11 ?_
  refine D_pI eX18_init_13 fq_X18_15_tN fn_X18_init_15 H (fun h H => ?_)
  refine V_aload0 eX18_init_16 (zrf_rf _) ?_
  refine V_aload3 eX18_init_17 (zrf_rf _) ?_
  refine D_pR eX18_init_18 fq_X18_21_tR fn_X18_init_21 H (fun h H => ?_)
  obtain ⟨rfl, rfl, rfl, rfl⟩ := zrt_ok H
  exact V_return (x := ()) eX18_init_21 rfl ⟨rfl, rfl⟩
def y_X18 : Nat → Bool := fun k => match k with
  | 18 => true
  | _ => false
theorem y_X18_ok : ∀ k, y_X18 k = true → zok k = true ∧ ((zcl k).1 = "LinesPromised$Bill" ∨ Cond.castable (zcl k).1 "LinesPromised$Bill" ∈ lw_tbl) := by
  intro k e
  unfold y_X18 at e
  split at e
  · exact ⟨by decide, Or.inl rfl⟩
  · cases e
def n_X18 : Nat → Bool := fun k => match k with
  | 0 => true
  | 1 => true
  | 2 => true
  | 3 => true
  | 4 => true
  | 5 => true
  | 6 => true
  | 8 => true
  | 9 => true
  | 10 => true
  | 11 => true
  | 13 => true
  | 15 => true
  | 16 => true
  | 17 => true
  | 19 => true
  | 20 => true
  | 21 => true
  | 22 => true
  | 23 => true
  | 24 => true
  | 26 => true
  | 27 => true
  | 28 => true
  | 30 => true
  | _ => false
theorem n_X18_ok : ∀ k, n_X18 k = true → zok k = true ∧ ((zcl k).1, "LinesPromised$Bill") ∈ zNC := by
  intro k e
  unfold n_X18 at e
  split at e
  · exact ⟨by decide, by decide +kernel⟩
  · exact ⟨by decide, by decide +kernel⟩
  · exact ⟨by decide, by decide +kernel⟩
  · exact ⟨by decide, by decide +kernel⟩
  · exact ⟨by decide, by decide +kernel⟩
  · exact ⟨by decide, by decide +kernel⟩
  · exact ⟨by decide, by decide +kernel⟩
  · exact ⟨by decide, by decide +kernel⟩
  · exact ⟨by decide, by decide +kernel⟩
  · exact ⟨by decide, by decide +kernel⟩
  · exact ⟨by decide, by decide +kernel⟩
  · exact ⟨by decide, by decide +kernel⟩
  · exact ⟨by decide, by decide +kernel⟩
  · exact ⟨by decide, by decide +kernel⟩
  · exact ⟨by decide, by decide +kernel⟩
  · exact ⟨by decide, by decide +kernel⟩
  · exact ⟨by decide, by decide +kernel⟩
  · exact ⟨by decide, by decide +kernel⟩
  · exact ⟨by decide, by decide +kernel⟩
  · exact ⟨by decide, by decide +kernel⟩
  · exact ⟨by decide, by decide +kernel⟩
  · exact ⟨by decide, by decide +kernel⟩
  · exact ⟨by decide, by decide +kernel⟩
  · exact ⟨by decide, by decide +kernel⟩
  · exact ⟨by decide, by decide +kernel⟩
  · cases e
theorem fq_X0_303_tR : FQ RX0 303 f_X18_plan tR := by
  intro k j e
  unfold f_X18_plan at e
  split at e
  · cases e; exact ⟨fl_X0_303_18, Or.inl ⟨_, rfl⟩⟩
  · cases e
def d_X0_bill_177 (w : Wd) (F : Nat) (s0 : Int32) : M Int32 :=
  zrt s0
def d_X0_bill_127 (w : Wd) (F : Nat) (k74 : Int32 → Int32 → M Int32) (x : Nat) (a2 : Option Nat) (a5 : Int32) (s0 : Int32) (s1 : Int32) : M Int32 :=
  k74 (s0 &&& s1) (a5 + (1 : Int32))
def d_X0_bill_122 (w : Wd) (F : Nat) (k74 : Int32 → Int32 → M Int32) (x : Nat) (a2 : Option Nat) (a5 : Int32) (s0 : Int32) : M Int32 :=
  d_X0_bill_127 w F k74 x a2 a5 s0 (1 : Int32)
def B_X0_bill_74 (w : Wd) (F : Nat) (k74 : Int32 → Int32 → M Int32) (x : Nat) (a2 : Option Nat) (a3 : Int32) (a5 : Int32) : M Int32 :=
  zbd (zgR f_X0_papers (some x)) fun v3 =>
  zbd (zv1 30 v3 (fun a => o_J2_size w F a)) fun v4 =>
  zif (v4 ≤ a5) (zif (a3 = 0) (zrt (-3 : Int32))
  (zbd (zv1 0 (some x) (fun a => o_X0_isFull w F a)) fun v5 =>
  zif (v5 = 0) (zbd (znw 18 0 18) fun n6 =>
  zbd (zgR f_X0_papers (some x)) fun v7 =>
  zbd (zv1 30 v7 (fun a => o_J2_size w F a)) fun v8 =>
  zbd (zgI f_X0_today (some x)) fun v9 =>
  zbd (znn n6 (fun a => o_X18_init w F a v8 v9 a2)) fun _ =>
  zbd (zv1 0 (some x) (fun a => o_X0_add w F a n6)) fun v11 =>
  d_X0_bill_177 w F v11)
  (d_X0_bill_177 w F (-4 : Int32))))
  (zbd (zgR f_X0_papers (some x)) fun v12 =>
  zbd (zv1 30 v12 (fun a => o_J2_get w F a a5)) fun v13 =>
  zbd (zio y_X18 n_X18 v13) fun v14 =>
  zif (v14 = 0) (d_X0_bill_122 w F k74 x a2 a5 a3)
  (zbd (zcc y_X18 v13) fun _ =>
  zbd (zgR f_X18_plan v13) fun v15 =>
  zif (v15 = a2) (d_X0_bill_127 w F k74 x a2 a5 a3 (0 : Int32))
  (d_X0_bill_122 w F k74 x a2 a5 a3)))
def d_X0_bill_74 (w : Wd) (F : Nat) (x : Nat) (a2 : Option Nat) : Nat → Int32 → Int32 → M Int32
  | 0, _, _ => zno
  | n + 1, a3, a5 => B_X0_bill_74 w F (d_X0_bill_74 w F x a2 n) x a2 a3 a5
def d_X0_bill_70 (w : Wd) (F : Nat) (x : Nat) (a2 : Option Nat) (s0 : Int32) : M Int32 :=
  d_X0_bill_74 w F x a2 F s0 (0 : Int32)
def d_X0_bill_69 (w : Wd) (F : Nat) (x : Nat) (a2 : Option Nat) : M Int32 :=
  d_X0_bill_70 w F x a2 (0 : Int32)
def o_X0_bill (w : Wd) (F : Nat) (x : Nat) (a1 : Int32) : M Int32 :=
  zbd (zv1 0 (some x) (fun a => o_X0_planAt w F a a1)) fun v1 =>
  zif (v1 = none) (zrt (-1 : Int32))
  (zbd (zgI f_X15_torn v1) fun v2 =>
  zif (v2 = (-5 : Int32)) (zbd (zgI f_X0_today (some x)) fun v3 =>
  zbd (zv1 0 (some x) (fun a => o_X0_openAt w F a v1 v3)) fun v4 =>
  zif (v4 = (-5 : Int32)) (zbd (zgI f_X0_today (some x)) fun v5 =>
  zbd (zv1 0 (some x) (fun a => o_X0_steepAt w F a v1 v5)) fun v6 =>
  zif (v6 = (-5 : Int32)) (zbd (zgI f_X0_today (some x)) fun v7 =>
  zbd (zgI f_X0_today (some x)) fun v8 =>
  zbd (zv1 0 (some x) (fun a => o_X0_rule w F a (2 : Int32) v8)) fun v9 =>
  zif (v9 < v7) (d_X0_bill_69 w F x v1)
  (d_X0_bill_70 w F x v1 (1 : Int32)))
  (d_X0_bill_69 w F x v1))
  (d_X0_bill_69 w F x v1))
  (d_X0_bill_69 w F x v1))
theorem b_X0_bill_177 {w : Wd} {F : Nat} {s0 : Int32} {h h1 : Hp} {y : Int32} {c s : Nat} (H : d_X0_bill_177 w F s0 h = some (y, h1, c, s)) : V w mX0_bill cX0_bill 8 c s h 177 [none, none, none, none, none, none, none] [.int s0] (Ro (oI y) h1) := by
  unfold d_X0_bill_177 at H
  obtain ⟨rfl, rfl, rfl, rfl⟩ := zrt_ok H
  exact V_ireturn eX0_bill_177 rfl ⟨rfl, rfl⟩
theorem b_X0_bill_127 {w : Wd} {F : Nat} {k74 : Int32 → Int32 → M Int32} {x : Nat} {a2 : Option Nat} (hk74 : ∀ (a3 : Int32) (a5 : Int32) (h : Hp) (y : Int32) (h1 : Hp) (c s : Nat), k74 a3 a5 h = some (y, h1, c, s) → V w mX0_bill cX0_bill 8 c s h 74 [some (va_rf (some x)), none, some (va_rf a2), some (.int a3), none, some (.int a5), none] [] (Ro (oI y) h1)) {a5 : Int32} {s0 : Int32} {s1 : Int32} {h h1 : Hp} {y : Int32} {c s : Nat} (H : d_X0_bill_127 w F k74 x a2 a5 s0 s1 h = some (y, h1, c, s)) : V w mX0_bill cX0_bill 8 c s h 127 [some (va_rf (some x)), none, some (va_rf a2), none, none, some (.int a5), none] [.int s1, .int s0] (Ro (oI y) h1) := by
  unfold d_X0_bill_127 at H
  refine V_iand eX0_bill_127 ?_
  refine V_istore3 (znl_rf _) eX0_bill_128 rfl ?_
  refine V_iinc5 rfl eX0_bill_129 rfl (v := 1) (by decide) ?_
  refine V_goto eX0_bill_132 ?_
  exact V_fg2 (hk74 _ _ _ _ _ _ _ H) (zfg_k (zfg_n (zfg_k (zfg_k (zfg_n (zfg_k (zfg_n zfg_e)))))))
theorem b_X0_bill_122 {w : Wd} {F : Nat} {k74 : Int32 → Int32 → M Int32} {x : Nat} {a2 : Option Nat} (hk74 : ∀ (a3 : Int32) (a5 : Int32) (h : Hp) (y : Int32) (h1 : Hp) (c s : Nat), k74 a3 a5 h = some (y, h1, c, s) → V w mX0_bill cX0_bill 8 c s h 74 [some (va_rf (some x)), none, some (va_rf a2), some (.int a3), none, some (.int a5), none] [] (Ro (oI y) h1)) {a5 : Int32} {s0 : Int32} {h h1 : Hp} {y : Int32} {c s : Nat} (H : d_X0_bill_122 w F k74 x a2 a5 s0 h = some (y, h1, c, s)) : V w mX0_bill cX0_bill 8 c s h 122 [some (va_rf (some x)), none, some (va_rf a2), none, none, some (.int a5), none] [.int s0] (Ro (oI y) h1) := by
  unfold d_X0_bill_122 at H
  refine V_iconst (v := 1) (by decide) eX0_bill_122 ?_
  refine V_goto eX0_bill_123 ?_
  exact V_fg2 (b_X0_bill_127 hk74 H) (zfg_k (zfg_n (zfg_k (zfg_n (zfg_n (zfg_k (zfg_n zfg_e)))))))
theorem bB_X0_bill_74 {w : Wd} {F : Nat} {k74 : Int32 → Int32 → M Int32} {x : Nat} {a2 : Option Nat} (hk74 : ∀ (a3 : Int32) (a5 : Int32) (h : Hp) (y : Int32) (h1 : Hp) (c s : Nat), k74 a3 a5 h = some (y, h1, c, s) → V w mX0_bill cX0_bill 8 c s h 74 [some (va_rf (some x)), none, some (va_rf a2), some (.int a3), none, some (.int a5), none] [] (Ro (oI y) h1)) {a3 : Int32} {a5 : Int32} {h h1 : Hp} {y : Int32} {c s : Nat} (H : B_X0_bill_74 w F k74 x a2 a3 a5 h = some (y, h1, c, s)) : V w mX0_bill cX0_bill 8 c s h 74 [some (va_rf (some x)), none, some (va_rf a2), some (.int a3), none, some (.int a5), none] [] (Ro (oI y) h1) := by
  unfold B_X0_bill_74 at H
  refine V_iload5 eX0_bill_74 ?_
  refine V_aload0 eX0_bill_76 (zrf_rf _) ?_
  refine D_gR eX0_bill_77 fq_X0_121_tR H (fun v3 H => ?_)
  refine D_callI (pc' := 83) (st := [.int a5]) H (fun v h' c1 s1 e cb sb k => ?_) (fun v4 h c s H => ?_)
  · obtain ⟨a, hr, ha, hk, e9⟩ := zv1_ok e
    cases hr
    exact V_invokevirtual (k := 30) eX0_bill_80 lmJ2_size q156 q157 rfl rfl q158 ha hk (c_J2_size e9) (hRet_oI _ _) rfl rfl rfl rfl (kOI k)
  refine V_if_icmpge eX0_bill_83 (fun q => ?_) (fun q => ?_)
  · have H := zif_t q H
    refine V_iload3 eX0_bill_135 ?_
    refine V_ifne eX0_bill_136 (fun q => ?_) (fun q => ?_)
    · have H := zif_f q H
      refine V_aload0 eX0_bill_142 (zrf_rf _) ?_
      refine D_callI (pc' := 146) (st := []) H (fun v h' c1 s1 e cb sb k => ?_) (fun v5 h c s H => ?_)
      · obtain ⟨a, hr, ha, hk, e9⟩ := zv1_ok e
        cases hr
        exact V_invokevirtual (k := 0) eX0_bill_143 lmX0_isFull q705 q707 rfl rfl qs19 ha hk (c_X0_isFull e9) (hRet_oI _ _) rfl rfl rfl rfl (kOI k)
      refine V_ifeq eX0_bill_146 (fun q => ?_) (fun q => ?_)
      · have H := zif_t q H
        refine V_aload0 eX0_bill_154 (zrf_rf _) ?_
        refine D_new (g := 0) eX0_bill_155 nl_X0_136 rfl H (fun n6 h c s H => ?_)
        refine V_dup (zcr _) eX0_bill_158 ?_
        refine V_aload0 eX0_bill_159 (zrf_rf _) ?_
        refine D_gR eX0_bill_160 fq_X0_121_tR H (fun v7 H => ?_)
        refine D_callI (pc' := 166) (st := [va_rf n6, va_rf n6, va_rf (some x)]) H (fun v h' c1 s1 e cb sb k => ?_) (fun v8 h c s H => ?_)
        · obtain ⟨a, hr, ha, hk, e9⟩ := zv1_ok e
          cases hr
          exact V_invokevirtual (k := 30) eX0_bill_163 lmJ2_size q156 q157 rfl rfl q158 ha hk (c_J2_size e9) (hRet_oI _ _) rfl rfl rfl (by simp only [List.map_cons, List.map_nil, zcr]; rfl) (kOI k)
        refine V_aload0 eX0_bill_166 (zrf_rf _) ?_
        refine D_gI eX0_bill_167 fq_X0_194_tI H (fun v9 H => ?_)
        refine V_aload2 eX0_bill_170 (zrf_rf _) ?_
        refine D_callU (pc' := 174) (st := [va_rf n6, va_rf (some x)]) H (fun v h' c1 s1 e cb sb k => ?_) (fun v10 h c s H => ?_)
        · obtain ⟨a, hr, e9⟩ := znn_ok e
          cases hr
          exact V_invokeinit eX0_bill_171 lmX18_init rfl rfl q1016 q1017 (c_X18_init e9) (hRet_oU _ _) rfl rfl rfl (by simp only [List.map_cons, List.map_nil, zcr]; rfl) (kOU k)
        refine D_callI (pc' := 177) (st := []) H (fun v h' c1 s1 e cb sb k => ?_) (fun v11 h c s H => ?_)
        · obtain ⟨a, hr, ha, hk, e9⟩ := zv1_ok e
          cases hr
          exact V_invokevirtual (k := 0) eX0_bill_174 lmX0_add q793 q795 rfl rfl qs20 ha hk (c_X0_add e9) (hRet_oI _ _) rfl rfl rfl rfl (kOI k)
        exact V_fg2 (b_X0_bill_177 H) (zfg_n (zfg_n (zfg_n (zfg_n (zfg_n (zfg_n (zfg_n zfg_e)))))))
      · have H := zif_f q H
        refine V_bipush (v := -4) (by decide) eX0_bill_149 ?_
        refine V_goto eX0_bill_151 ?_
        exact V_fg2 (b_X0_bill_177 H) (zfg_n (zfg_n (zfg_n (zfg_n (zfg_n (zfg_n (zfg_n zfg_e)))))))
    · have H := zif_t q H
      refine V_bipush (v := -3) (by decide) eX0_bill_139 ?_
      obtain ⟨rfl, rfl, rfl, rfl⟩ := zrt_ok H
      exact V_ireturn eX0_bill_141 rfl ⟨rfl, rfl⟩
  · have H := zif_f q H
    refine V_iload3 eX0_bill_86 ?_
    refine V_aload0 eX0_bill_87 (zrf_rf _) ?_
    refine D_gR eX0_bill_88 fq_X0_121_tR H (fun v12 H => ?_)
    refine V_iload5 eX0_bill_91 ?_
    refine D_callR (pc' := 96) (st := [.int a3]) H (fun v h' c1 s1 e cb sb k => ?_) (fun v13 h c s H => ?_)
    · obtain ⟨a, hr, ha, hk, e9⟩ := zv1_ok e
      cases hr
      exact V_invokevirtual (k := 30) eX0_bill_93 lmJ2_get q160 q161 rfl rfl q162 ha hk (c_J2_get e9) (hRet_oR _ _) rfl rfl rfl rfl (kOR k)
    refine V_astore6 rfl eX0_bill_96 rfl (zrf_rf _) ?_
    refine V_aload6 eX0_bill_98 (zrf_rf _) ?_
    refine D_inst eX0_bill_100 q1014 y_X18_ok n_X18_ok H (fun v14 H => ?_)
    refine V_ifeq eX0_bill_103 (fun q => ?_) (fun q => ?_)
    · have H := zif_t q H
      exact V_fg2 (b_X0_bill_122 hk74 H) (zfg_k (zfg_n (zfg_k (zfg_n (zfg_n (zfg_k (zfg_n zfg_e)))))))
    · have H := zif_f q H
      refine V_aload6 eX0_bill_106 (zrf_rf _) ?_
      refine D_cast eX0_bill_108 q1014 y_X18_ok H (fun H => ?_)
      refine V_astore4 rfl eX0_bill_111 rfl (zrf_rf _) ?_
      refine V_aload4 eX0_bill_113 (zrf_rf _) ?_
      refine D_gR eX0_bill_115 fq_X0_303_tR H (fun v15 H => ?_)
      refine V_aload2 eX0_bill_118 (zrf_rf _) ?_
      refine V_if_acmpeq eX0_bill_119 (fun q => ?_) (fun q => ?_)
      · have H := zif_t q H
        refine V_iconst (v := 0) (by decide) eX0_bill_126 ?_
        exact V_fg2 (b_X0_bill_127 hk74 H) (zfg_k (zfg_n (zfg_k (zfg_n (zfg_n (zfg_k (zfg_n zfg_e)))))))
      · have H := zif_f q H
        exact V_fg2 (b_X0_bill_122 hk74 H) (zfg_k (zfg_n (zfg_k (zfg_n (zfg_n (zfg_k (zfg_n zfg_e)))))))
theorem b_X0_bill_74 {w : Wd} {F : Nat} {x : Nat} {a2 : Option Nat} : ∀ (n : Nat) (a3 : Int32) (a5 : Int32) (h : Hp) (y : Int32) (h1 : Hp) (c s : Nat), d_X0_bill_74 w F x a2 n a3 a5 h = some (y, h1, c, s) → V w mX0_bill cX0_bill 8 c s h 74 [some (va_rf (some x)), none, some (va_rf a2), some (.int a3), none, some (.int a5), none] [] (Ro (oI y) h1) := by
  intro n
  induction n with
  | zero => intro a3 a5 h y h1 c s H; exact zno_no H
  | succ n ih => intro a3 a5 h y h1 c s H; exact bB_X0_bill_74 ih H
theorem b_X0_bill_70 {w : Wd} {F : Nat} {x : Nat} {a2 : Option Nat} {s0 : Int32} {h h1 : Hp} {y : Int32} {c s : Nat} (H : d_X0_bill_70 w F x a2 s0 h = some (y, h1, c, s)) : V w mX0_bill cX0_bill 8 c s h 70 [some (va_rf (some x)), none, some (va_rf a2), none, none, none, none] [.int s0] (Ro (oI y) h1) := by
  unfold d_X0_bill_70 at H
  refine V_istore3 (znl_rf _) eX0_bill_70 rfl ?_
  refine V_iconst (v := 0) (by decide) eX0_bill_71 ?_
  refine V_istore5 rfl eX0_bill_72 rfl ?_
  exact V_fg2 (b_X0_bill_74 _ _ _ _ _ _ _ _ H) (zfg_k (zfg_n (zfg_k (zfg_k (zfg_n (zfg_k (zfg_n zfg_e)))))))
theorem b_X0_bill_69 {w : Wd} {F : Nat} {x : Nat} {a2 : Option Nat} {h h1 : Hp} {y : Int32} {c s : Nat} (H : d_X0_bill_69 w F x a2 h = some (y, h1, c, s)) : V w mX0_bill cX0_bill 8 c s h 69 [some (va_rf (some x)), none, some (va_rf a2), none, none, none, none] [] (Ro (oI y) h1) := by
  unfold d_X0_bill_69 at H
  refine V_iconst (v := 0) (by decide) eX0_bill_69 ?_
  exact V_fg2 (b_X0_bill_70 H) (zfg_k (zfg_n (zfg_k (zfg_n (zfg_n (zfg_n (zfg_n zfg_e)))))))
theorem c_X0_bill {w : Wd} {F : Nat} {x : Nat} {a1 : Int32} {h h1 : Hp} {y : Int32} {c s : Nat} (H : o_X0_bill w F x a1 h = some (y, h1, c, s)) : Con w mX0_bill cX0_bill 8 c s [.ref x, .int a1] h (Ro (oI y) h1) := by
  unfold o_X0_bill at H
  refine Con.of (ls := [some (va_rf (some x)), some (.int a1), none, none, none, none, none]) (by decide +kernel) rfl rfl ?_
  refine V_aload0 eX0_bill_0 (zrf_rf _) ?_
  refine V_iload1 eX0_bill_1 ?_
  refine D_callR (pc' := 5) (st := []) H (fun v h' c1 s1 e cb sb k => ?_) (fun v1 h c s H => ?_)
  · obtain ⟨a, hr, ha, hk, e9⟩ := zv1_ok e
    cases hr
    exact V_invokevirtual (k := 0) eX0_bill_2 lmX0_planAt q941 q943 rfl rfl qs25 ha hk (c_X0_planAt e9) (hRet_oR _ _) rfl rfl rfl rfl (kOR k)
  refine V_astore2 rfl eX0_bill_5 rfl (zrf_rf _) ?_
  refine V_aload2 eX0_bill_6 (zrf_rf _) ?_
  refine V_ifnonnull eX0_bill_7 (fun a q => ?_) (fun q => ?_)
  · have H := zif_f (zsn q) H
    refine V_aload2 eX0_bill_12 (zrf_rf _) ?_
    refine D_gI eX0_bill_13 fq_X0_261_tI H (fun v2 H => ?_)
    refine V_bipush (v := -5) (by decide) eX0_bill_16 ?_
    refine V_if_icmpne eX0_bill_18 (fun q => ?_) (fun q => ?_)
    · have H := zif_f q H
      exact V_fg2 (b_X0_bill_69 H) (zfg_k (zfg_n (zfg_k (zfg_n (zfg_n (zfg_n (zfg_n zfg_e)))))))
    · have H := zif_t q H
      refine V_aload0 eX0_bill_21 (zrf_rf _) ?_
      refine V_aload2 eX0_bill_22 (zrf_rf _) ?_
      refine V_aload0 eX0_bill_23 (zrf_rf _) ?_
      refine D_gI eX0_bill_24 fq_X0_194_tI H (fun v3 H => ?_)
      refine D_callI (pc' := 30) (st := []) H (fun v h' c1 s1 e cb sb k => ?_) (fun v4 h c s H => ?_)
      · obtain ⟨a, hr, ha, hk, e9⟩ := zv1_ok e
        cases hr
        exact V_invokevirtual (k := 0) eX0_bill_27 lmX0_openAt q965 q967 rfl rfl qs29 ha hk (c_X0_openAt e9) (hRet_oI _ _) rfl rfl rfl rfl (kOI k)
      refine V_bipush (v := -5) (by decide) eX0_bill_30 ?_
      refine V_if_icmpne eX0_bill_32 (fun q => ?_) (fun q => ?_)
      · have H := zif_f q H
        exact V_fg2 (b_X0_bill_69 H) (zfg_k (zfg_n (zfg_k (zfg_n (zfg_n (zfg_n (zfg_n zfg_e)))))))
      · have H := zif_t q H
        refine V_aload0 eX0_bill_35 (zrf_rf _) ?_
        refine V_aload2 eX0_bill_36 (zrf_rf _) ?_
        refine V_aload0 eX0_bill_37 (zrf_rf _) ?_
        refine D_gI eX0_bill_38 fq_X0_194_tI H (fun v5 H => ?_)
        refine D_callI (pc' := 44) (st := []) H (fun v h' c1 s1 e cb sb k => ?_) (fun v6 h c s H => ?_)
        · obtain ⟨a, hr, ha, hk, e9⟩ := zv1_ok e
          cases hr
          exact V_invokevirtual (k := 0) eX0_bill_41 lmX0_steepAt q969 q971 rfl rfl qs30 ha hk (c_X0_steepAt e9) (hRet_oI _ _) rfl rfl rfl rfl (kOI k)
        refine V_bipush (v := -5) (by decide) eX0_bill_44 ?_
        refine V_if_icmpne eX0_bill_46 (fun q => ?_) (fun q => ?_)
        · have H := zif_f q H
          exact V_fg2 (b_X0_bill_69 H) (zfg_k (zfg_n (zfg_k (zfg_n (zfg_n (zfg_n (zfg_n zfg_e)))))))
        · have H := zif_t q H
          refine V_aload0 eX0_bill_49 (zrf_rf _) ?_
          refine D_gI eX0_bill_50 fq_X0_194_tI H (fun v7 H => ?_)
          refine V_aload0 eX0_bill_53 (zrf_rf _) ?_
          refine V_iconst (v := 2) (by decide) eX0_bill_54 ?_
          refine V_aload0 eX0_bill_55 (zrf_rf _) ?_
          refine D_gI eX0_bill_56 fq_X0_194_tI H (fun v8 H => ?_)
          refine D_callI (pc' := 62) (st := [.int v7]) H (fun v h' c1 s1 e cb sb k => ?_) (fun v9 h c s H => ?_)
          · obtain ⟨a, hr, ha, hk, e9⟩ := zv1_ok e
            cases hr
            exact V_invokevirtual (k := 0) eX0_bill_59 lmX0_rule q529 q531 rfl rfl qs15 ha hk (c_X0_rule e9) (hRet_oI _ _) rfl rfl rfl rfl (kOI k)
          refine V_if_icmpgt eX0_bill_62 (fun q => ?_) (fun q => ?_)
          · have H := zif_t q H
            exact V_fg2 (b_X0_bill_69 H) (zfg_k (zfg_n (zfg_k (zfg_n (zfg_n (zfg_n (zfg_n zfg_e)))))))
          · have H := zif_f q H
            refine V_iconst (v := 1) (by decide) eX0_bill_65 ?_
            refine V_goto eX0_bill_66 ?_
            exact V_fg2 (b_X0_bill_70 H) (zfg_k (zfg_n (zfg_k (zfg_n (zfg_n (zfg_n (zfg_n zfg_e)))))))
  · have H := zif_t q H
    refine V_iconst (v := -1) (by decide) eX0_bill_10 ?_
    obtain ⟨rfl, rfl, rfl, rfl⟩ := zrt_ok H
    exact V_ireturn eX0_bill_11 rfl ⟨rfl, rfl⟩
def d_X0_billAt_23 (w : Wd) (F : Nat) (s0 : Option Nat) : M (Option Nat) :=
  zrt s0
def o_X0_billAt (w : Wd) (F : Nat) (x : Nat) (a1 : Int32) : M (Option Nat) :=
  zbd (zv1 0 (some x) (fun a => o_X0_paperAt w F a a1)) fun v1 =>
  zbd (zio y_X18 n_X18 v1) fun v2 =>
  zif (v2 = 0) (d_X0_billAt_23 w F none)
  (zbd (zcc y_X18 v1) fun _ =>
  d_X0_billAt_23 w F v1)
theorem b_X0_billAt_23 {w : Wd} {F : Nat} {s0 : Option Nat} {h h1 : Hp} {y : Option Nat} {c s : Nat} (H : d_X0_billAt_23 w F s0 h = some (y, h1, c, s)) : V w mX0_billAt cX0_billAt 4 c s h 23 [none, none, none, none] [va_rf s0] (Ro (oR y) h1) := by
  unfold d_X0_billAt_23 at H
  obtain ⟨rfl, rfl, rfl, rfl⟩ := zrt_ok H
  exact V_areturn eX0_billAt_23 rfl (Or.inl ⟨_, rfl⟩) ⟨rfl, rfl⟩
theorem c_X0_billAt {w : Wd} {F : Nat} {x : Nat} {a1 : Int32} {h h1 : Hp} {y : Option Nat} {c s : Nat} (H : o_X0_billAt w F x a1 h = some (y, h1, c, s)) : Con w mX0_billAt cX0_billAt 4 c s [.ref x, .int a1] h (Ro (oR y) h1) := by
  unfold o_X0_billAt at H
  refine Con.of (ls := [some (va_rf (some x)), some (.int a1), none, none]) (by decide +kernel) rfl rfl ?_
  refine V_aload0 eX0_billAt_0 (zrf_rf _) ?_
  refine V_iload1 eX0_billAt_1 ?_
  refine D_callR (pc' := 5) (st := []) H (fun v h' c1 s1 e cb sb k => ?_) (fun v1 h c s H => ?_)
  · obtain ⟨a, hr, ha, hk, e9⟩ := zv1_ok e
    cases hr
    exact V_invokevirtual (k := 0) eX0_billAt_2 lmX0_paperAt q806 q808 rfl rfl qs22 ha hk (c_X0_paperAt e9) (hRet_oR _ _) rfl rfl rfl rfl (kOR k)
  refine V_astore3 rfl eX0_billAt_5 rfl (zrf_rf _) ?_
  refine V_aload3 eX0_billAt_6 (zrf_rf _) ?_
  refine D_inst eX0_billAt_7 q1014 y_X18_ok n_X18_ok H (fun v2 H => ?_)
  refine V_ifeq eX0_billAt_10 (fun q => ?_) (fun q => ?_)
  · have H := zif_t q H
    refine D_null eX0_billAt_22 ?_
    exact V_fg2 (b_X0_billAt_23 H) (zfg_n (zfg_n (zfg_n (zfg_n zfg_e))))
  · have H := zif_f q H
    refine V_aload3 eX0_billAt_13 (zrf_rf _) ?_
    refine D_cast eX0_billAt_14 q1014 y_X18_ok H (fun H => ?_)
    refine V_astore2 rfl eX0_billAt_17 rfl (zrf_rf _) ?_
    refine V_aload2 eX0_billAt_18 (zrf_rf _) ?_
    refine V_goto eX0_billAt_19 ?_
    exact V_fg2 (b_X0_billAt_23 H) (zfg_n (zfg_n (zfg_n (zfg_n zfg_e))))
def d_X0_cellsOf_36 (w : Wd) (F : Nat) (k5 : Int32 → Int32 → M Int32) (x : Nat) (a1 : Option Nat) (a2 : Int32) (a4 : Int32) (s0 : Int32) (s1 : Int32) : M Int32 :=
  k5 (s0 + s1) (a4 + (1 : Int32))
def B_X0_cellsOf_5 (w : Wd) (F : Nat) (k5 : Int32 → Int32 → M Int32) (x : Nat) (a1 : Option Nat) (a2 : Int32) (a3 : Int32) (a4 : Int32) : M Int32 :=
  zbd (zgI f_X15_many a1) fun v1 =>
  zif (v1 ≤ a4) (zrt a3)
  (zbd (zgR f_X0_kind (some x)) fun v2 =>
  zbd (zgR f_X15_way a1) fun v3 =>
  zbd (zaI 0 v3 a4) fun v4 =>
  zbd (zaI 0 v2 v4) fun v5 =>
  zif (v5 = a2) (d_X0_cellsOf_36 w F k5 x a1 a2 a4 a3 (1 : Int32))
  (d_X0_cellsOf_36 w F k5 x a1 a2 a4 a3 (0 : Int32)))
def d_X0_cellsOf_5 (w : Wd) (F : Nat) (x : Nat) (a1 : Option Nat) (a2 : Int32) : Nat → Int32 → Int32 → M Int32
  | 0, _, _ => zno
  | n + 1, a3, a4 => B_X0_cellsOf_5 w F (d_X0_cellsOf_5 w F x a1 a2 n) x a1 a2 a3 a4
def o_X0_cellsOf (w : Wd) (F : Nat) (x : Nat) (a1 : Option Nat) (a2 : Int32) : M Int32 :=
  d_X0_cellsOf_5 w F x a1 a2 F (0 : Int32) (0 : Int32)
theorem b_X0_cellsOf_36 {w : Wd} {F : Nat} {k5 : Int32 → Int32 → M Int32} {x : Nat} {a1 : Option Nat} {a2 : Int32} (hk5 : ∀ (a3 : Int32) (a4 : Int32) (h : Hp) (y : Int32) (h1 : Hp) (c s : Nat), k5 a3 a4 h = some (y, h1, c, s) → V w mX0_cellsOf cX0_cellsOf 0 c s h 5 [some (va_rf (some x)), some (va_rf a1), some (.int a2), some (.int a3), some (.int a4)] [] (Ro (oI y) h1)) {a4 : Int32} {s0 : Int32} {s1 : Int32} {h h1 : Hp} {y : Int32} {c s : Nat} (H : d_X0_cellsOf_36 w F k5 x a1 a2 a4 s0 s1 h = some (y, h1, c, s)) : V w mX0_cellsOf cX0_cellsOf 0 c s h 36 [some (va_rf (some x)), some (va_rf a1), some (.int a2), none, some (.int a4)] [.int s1, .int s0] (Ro (oI y) h1) := by
  unfold d_X0_cellsOf_36 at H
  refine V_iadd eX0_cellsOf_36 ?_
  refine V_istore3 rfl eX0_cellsOf_37 rfl ?_
  refine V_iinc4 rfl eX0_cellsOf_38 rfl (v := 1) (by decide) ?_
  refine V_goto eX0_cellsOf_41 ?_
  exact V_fg2 (hk5 _ _ _ _ _ _ _ H) (zfg_k (zfg_k (zfg_k (zfg_k (zfg_k zfg_e)))))
theorem bB_X0_cellsOf_5 {w : Wd} {F : Nat} {k5 : Int32 → Int32 → M Int32} {x : Nat} {a1 : Option Nat} {a2 : Int32} (hk5 : ∀ (a3 : Int32) (a4 : Int32) (h : Hp) (y : Int32) (h1 : Hp) (c s : Nat), k5 a3 a4 h = some (y, h1, c, s) → V w mX0_cellsOf cX0_cellsOf 0 c s h 5 [some (va_rf (some x)), some (va_rf a1), some (.int a2), some (.int a3), some (.int a4)] [] (Ro (oI y) h1)) {a3 : Int32} {a4 : Int32} {h h1 : Hp} {y : Int32} {c s : Nat} (H : B_X0_cellsOf_5 w F k5 x a1 a2 a3 a4 h = some (y, h1, c, s)) : V w mX0_cellsOf cX0_cellsOf 0 c s h 5 [some (va_rf (some x)), some (va_rf a1), some (.int a2), some (.int a3), some (.int a4)] [] (Ro (oI y) h1) := by
  unfold B_X0_cellsOf_5 at H
  refine V_iload4 eX0_cellsOf_5 ?_
  refine V_aload1 eX0_cellsOf_7 (zrf_rf _) ?_
  refine D_gI eX0_cellsOf_8 fq_X0_228_tI H (fun v1 H => ?_)
  refine V_if_icmpge eX0_cellsOf_11 (fun q => ?_) (fun q => ?_)
  · have H := zif_t q H
    refine V_iload3 eX0_cellsOf_44 ?_
    obtain ⟨rfl, rfl, rfl, rfl⟩ := zrt_ok H
    exact V_ireturn eX0_cellsOf_45 rfl ⟨rfl, rfl⟩
  · have H := zif_f q H
    refine V_iload3 eX0_cellsOf_14 ?_
    refine V_aload0 eX0_cellsOf_15 (zrf_rf _) ?_
    refine D_gR eX0_cellsOf_16 fq_X0_21_tR H (fun v2 H => ?_)
    refine V_aload1 eX0_cellsOf_19 (zrf_rf _) ?_
    refine D_gR eX0_cellsOf_20 fq_X0_203_tR H (fun v3 H => ?_)
    refine V_iload4 eX0_cellsOf_23 ?_
    refine D_iaload eX0_cellsOf_25 H (fun v4 H => ?_)
    refine D_iaload eX0_cellsOf_26 H (fun v5 H => ?_)
    refine V_iload2 eX0_cellsOf_27 ?_
    refine V_if_icmpne eX0_cellsOf_28 (fun q => ?_) (fun q => ?_)
    · have H := zif_f q H
      refine V_iconst (v := 0) (by decide) eX0_cellsOf_35 ?_
      exact V_fg2 (b_X0_cellsOf_36 hk5 H) (zfg_k (zfg_k (zfg_k (zfg_n (zfg_k zfg_e)))))
    · have H := zif_t q H
      refine V_iconst (v := 1) (by decide) eX0_cellsOf_31 ?_
      refine V_goto eX0_cellsOf_32 ?_
      exact V_fg2 (b_X0_cellsOf_36 hk5 H) (zfg_k (zfg_k (zfg_k (zfg_n (zfg_k zfg_e)))))
theorem b_X0_cellsOf_5 {w : Wd} {F : Nat} {x : Nat} {a1 : Option Nat} {a2 : Int32} : ∀ (n : Nat) (a3 : Int32) (a4 : Int32) (h : Hp) (y : Int32) (h1 : Hp) (c s : Nat), d_X0_cellsOf_5 w F x a1 a2 n a3 a4 h = some (y, h1, c, s) → V w mX0_cellsOf cX0_cellsOf 0 c s h 5 [some (va_rf (some x)), some (va_rf a1), some (.int a2), some (.int a3), some (.int a4)] [] (Ro (oI y) h1) := by
  intro n
  induction n with
  | zero => intro a3 a4 h y h1 c s H; exact zno_no H
  | succ n ih => intro a3 a4 h y h1 c s H; exact bB_X0_cellsOf_5 ih H
theorem c_X0_cellsOf {w : Wd} {F : Nat} {x : Nat} {a1 : Option Nat} {a2 : Int32} {h h1 : Hp} {y : Int32} {c s : Nat} (H : o_X0_cellsOf w F x a1 a2 h = some (y, h1, c, s)) : Con w mX0_cellsOf cX0_cellsOf 0 c s [.ref x, va_rf a1, .int a2] h (Ro (oI y) h1) := by
  unfold o_X0_cellsOf at H
  refine Con.of (ls := [some (va_rf (some x)), some (va_rf a1), some (.int a2), none, none]) (by decide +kernel) (by simp only [zsl_r, zsl_i, zsl_l, zsl_n, zsl_a]; rfl) (by simp only [zar_r, zar_i, zar_l, zar_n, zar_a]; rfl) ?_
  refine V_iconst (v := 0) (by decide) eX0_cellsOf_0 ?_
  refine V_istore3 rfl eX0_cellsOf_1 rfl ?_
  refine V_iconst (v := 0) (by decide) eX0_cellsOf_2 ?_
  refine V_istore4 rfl eX0_cellsOf_3 rfl ?_
  exact V_fg2 (b_X0_cellsOf_5 _ _ _ _ _ _ _ _ H) (zfg_k (zfg_k (zfg_k (zfg_k (zfg_k zfg_e)))))
def y_X17 : Nat → Bool := fun k => match k with
  | 17 => true
  | _ => false
theorem y_X17_ok : ∀ k, y_X17 k = true → zok k = true ∧ ((zcl k).1 = "LinesPromised$Claim" ∨ Cond.castable (zcl k).1 "LinesPromised$Claim" ∈ lw_tbl) := by
  intro k e
  unfold y_X17 at e
  split at e
  · exact ⟨by decide, Or.inl rfl⟩
  · cases e
def n_X17 : Nat → Bool := fun k => match k with
  | 0 => true
  | 1 => true
  | 2 => true
  | 3 => true
  | 4 => true
  | 5 => true
  | 6 => true
  | 8 => true
  | 9 => true
  | 10 => true
  | 11 => true
  | 13 => true
  | 15 => true
  | 16 => true
  | 18 => true
  | 19 => true
  | 20 => true
  | 21 => true
  | 22 => true
  | 23 => true
  | 24 => true
  | 26 => true
  | 27 => true
  | 28 => true
  | 30 => true
  | _ => false
theorem n_X17_ok : ∀ k, n_X17 k = true → zok k = true ∧ ((zcl k).1, "LinesPromised$Claim") ∈ zNC := by
  intro k e
  unfold n_X17 at e
  split at e
  · exact ⟨by decide, by decide +kernel⟩
  · exact ⟨by decide, by decide +kernel⟩
  · exact ⟨by decide, by decide +kernel⟩
  · exact ⟨by decide, by decide +kernel⟩
  · exact ⟨by decide, by decide +kernel⟩
  · exact ⟨by decide, by decide +kernel⟩
  · exact ⟨by decide, by decide +kernel⟩
  · exact ⟨by decide, by decide +kernel⟩
  · exact ⟨by decide, by decide +kernel⟩
  · exact ⟨by decide, by decide +kernel⟩
  · exact ⟨by decide, by decide +kernel⟩
  · exact ⟨by decide, by decide +kernel⟩
  · exact ⟨by decide, by decide +kernel⟩
  · exact ⟨by decide, by decide +kernel⟩
  · exact ⟨by decide, by decide +kernel⟩
  · exact ⟨by decide, by decide +kernel⟩
  · exact ⟨by decide, by decide +kernel⟩
  · exact ⟨by decide, by decide +kernel⟩
  · exact ⟨by decide, by decide +kernel⟩
  · exact ⟨by decide, by decide +kernel⟩
  · exact ⟨by decide, by decide +kernel⟩
  · exact ⟨by decide, by decide +kernel⟩
  · exact ⟨by decide, by decide +kernel⟩
  · exact ⟨by decide, by decide +kernel⟩
  · exact ⟨by decide, by decide +kernel⟩
  · cases e
theorem fq_X0_300_tI : FQ RX0 300 f_X17_cell tI := by
  intro k j e
  unfold f_X17_cell at e
  split at e
  · cases e; exact ⟨fl_X0_300_17, Or.inl rfl⟩
  · cases e
theorem fq_X0_301_tI : FQ RX0 301 f_X17_coins tI := by
  intro k j e
  unfold f_X17_coins at e
  split at e
  · cases e; exact ⟨fl_X0_301_17, Or.inl rfl⟩
  · cases e
def d_X0_claimsOn_60 (w : Wd) (F : Nat) (k5 : Int32 → Int32 → M Int32) (x : Nat) (a1 : Option Nat) (a2 : Int32) (a4 : Int32) : M Int32 :=
  k5 a2 (a4 + (1 : Int32))
def B_X0_claimsOn_5 (w : Wd) (F : Nat) (k5 : Int32 → Int32 → M Int32) (x : Nat) (a1 : Option Nat) (a2 : Int32) (a4 : Int32) : M Int32 :=
  zbd (zgR f_X0_papers (some x)) fun v1 =>
  zbd (zv1 30 v1 (fun a => o_J2_size w F a)) fun v2 =>
  zif (v2 ≤ a4) (zrt a2)
  (zbd (zgR f_X0_papers (some x)) fun v3 =>
  zbd (zv1 30 v3 (fun a => o_J2_get w F a a4)) fun v4 =>
  zbd (zio y_X17 n_X17 v4) fun v5 =>
  zif (v5 = 0) (d_X0_claimsOn_60 w F k5 x a1 a2 a4)
  (zbd (zcc y_X17 v4) fun _ =>
  zbd (zgI f_X17_cell v4) fun v6 =>
  zbd (zv1 15 a1 (fun a => o_X15_has w F a v6)) fun v7 =>
  zif (v7 = 0) (d_X0_claimsOn_60 w F k5 x a1 a2 a4)
  (zbd (zgI f_X17_coins v4) fun v8 =>
  d_X0_claimsOn_60 w F k5 x a1 (a2 + v8) a4)))
def d_X0_claimsOn_5 (w : Wd) (F : Nat) (x : Nat) (a1 : Option Nat) : Nat → Int32 → Int32 → M Int32
  | 0, _, _ => zno
  | n + 1, a2, a4 => B_X0_claimsOn_5 w F (d_X0_claimsOn_5 w F x a1 n) x a1 a2 a4
def o_X0_claimsOn (w : Wd) (F : Nat) (x : Nat) (a1 : Option Nat) : M Int32 :=
  d_X0_claimsOn_5 w F x a1 F (0 : Int32) (0 : Int32)
theorem b_X0_claimsOn_60 {w : Wd} {F : Nat} {k5 : Int32 → Int32 → M Int32} {x : Nat} {a1 : Option Nat} (hk5 : ∀ (a2 : Int32) (a4 : Int32) (h : Hp) (y : Int32) (h1 : Hp) (c s : Nat), k5 a2 a4 h = some (y, h1, c, s) → V w mX0_claimsOn cX0_claimsOn 3 c s h 5 [some (va_rf (some x)), some (va_rf a1), some (.int a2), none, some (.int a4), none] [] (Ro (oI y) h1)) {a2 : Int32} {a4 : Int32} {h h1 : Hp} {y : Int32} {c s : Nat} (H : d_X0_claimsOn_60 w F k5 x a1 a2 a4 h = some (y, h1, c, s)) : V w mX0_claimsOn cX0_claimsOn 3 c s h 60 [some (va_rf (some x)), some (va_rf a1), some (.int a2), none, some (.int a4), none] [] (Ro (oI y) h1) := by
  unfold d_X0_claimsOn_60 at H
  refine V_iinc4 rfl eX0_claimsOn_60 rfl (v := 1) (by decide) ?_
  refine V_goto eX0_claimsOn_63 ?_
  exact V_fg2 (hk5 _ _ _ _ _ _ _ H) (zfg_k (zfg_k (zfg_k (zfg_n (zfg_k (zfg_n zfg_e))))))
theorem bB_X0_claimsOn_5 {w : Wd} {F : Nat} {k5 : Int32 → Int32 → M Int32} {x : Nat} {a1 : Option Nat} (hk5 : ∀ (a2 : Int32) (a4 : Int32) (h : Hp) (y : Int32) (h1 : Hp) (c s : Nat), k5 a2 a4 h = some (y, h1, c, s) → V w mX0_claimsOn cX0_claimsOn 3 c s h 5 [some (va_rf (some x)), some (va_rf a1), some (.int a2), none, some (.int a4), none] [] (Ro (oI y) h1)) {a2 : Int32} {a4 : Int32} {h h1 : Hp} {y : Int32} {c s : Nat} (H : B_X0_claimsOn_5 w F k5 x a1 a2 a4 h = some (y, h1, c, s)) : V w mX0_claimsOn cX0_claimsOn 3 c s h 5 [some (va_rf (some x)), some (va_rf a1), some (.int a2), none, some (.int a4), none] [] (Ro (oI y) h1) := by
  unfold B_X0_claimsOn_5 at H
  refine V_iload4 eX0_claimsOn_5 ?_
  refine V_aload0 eX0_claimsOn_7 (zrf_rf _) ?_
  refine D_gR eX0_claimsOn_8 fq_X0_121_tR H (fun v1 H => ?_)
  refine D_callI (pc' := 14) (st := [.int a4]) H (fun v h' c1 s1 e cb sb k => ?_) (fun v2 h c s H => ?_)
  · obtain ⟨a, hr, ha, hk, e9⟩ := zv1_ok e
    cases hr
    exact V_invokevirtual (k := 30) eX0_claimsOn_11 lmJ2_size q156 q157 rfl rfl q158 ha hk (c_J2_size e9) (hRet_oI _ _) rfl rfl rfl rfl (kOI k)
  refine V_if_icmpge eX0_claimsOn_14 (fun q => ?_) (fun q => ?_)
  · have H := zif_t q H
    refine V_iload2 eX0_claimsOn_66 ?_
    obtain ⟨rfl, rfl, rfl, rfl⟩ := zrt_ok H
    exact V_ireturn eX0_claimsOn_67 rfl ⟨rfl, rfl⟩
  · have H := zif_f q H
    refine V_aload0 eX0_claimsOn_17 (zrf_rf _) ?_
    refine D_gR eX0_claimsOn_18 fq_X0_121_tR H (fun v3 H => ?_)
    refine V_iload4 eX0_claimsOn_21 ?_
    refine D_callR (pc' := 26) (st := []) H (fun v h' c1 s1 e cb sb k => ?_) (fun v4 h c s H => ?_)
    · obtain ⟨a, hr, ha, hk, e9⟩ := zv1_ok e
      cases hr
      exact V_invokevirtual (k := 30) eX0_claimsOn_23 lmJ2_get q160 q161 rfl rfl q162 ha hk (c_J2_get e9) (hRet_oR _ _) rfl rfl rfl rfl (kOR k)
    refine V_astore5 rfl eX0_claimsOn_26 rfl (zrf_rf _) ?_
    refine V_aload5 eX0_claimsOn_28 (zrf_rf _) ?_
    refine D_inst eX0_claimsOn_30 q993 y_X17_ok n_X17_ok H (fun v5 H => ?_)
    refine V_ifeq eX0_claimsOn_33 (fun q => ?_) (fun q => ?_)
    · have H := zif_t q H
      exact V_fg2 (b_X0_claimsOn_60 hk5 H) (zfg_k (zfg_k (zfg_k (zfg_n (zfg_k (zfg_n zfg_e))))))
    · have H := zif_f q H
      refine V_aload5 eX0_claimsOn_36 (zrf_rf _) ?_
      refine D_cast eX0_claimsOn_38 q993 y_X17_ok H (fun H => ?_)
      refine V_astore3 rfl eX0_claimsOn_41 rfl (zrf_rf _) ?_
      refine V_aload1 eX0_claimsOn_42 (zrf_rf _) ?_
      refine V_aload3 eX0_claimsOn_43 (zrf_rf _) ?_
      refine D_gI eX0_claimsOn_44 fq_X0_300_tI H (fun v6 H => ?_)
      refine D_callI (pc' := 50) (st := []) H (fun v h' c1 s1 e cb sb k => ?_) (fun v7 h c s H => ?_)
      · obtain ⟨a, hr, ha, hk, e9⟩ := zv1_ok e
        cases hr
        exact V_invokevirtual (k := 15) eX0_claimsOn_47 lmX15_has q918 q919 rfl rfl q920 ha hk (c_X15_has e9) (hRet_oI _ _) rfl rfl rfl rfl (kOI k)
      refine V_ifeq eX0_claimsOn_50 (fun q => ?_) (fun q => ?_)
      · have H := zif_t q H
        exact V_fg2 (b_X0_claimsOn_60 hk5 H) (zfg_k (zfg_k (zfg_k (zfg_n (zfg_k (zfg_n zfg_e))))))
      · have H := zif_f q H
        refine V_iload2 eX0_claimsOn_53 ?_
        refine V_aload3 eX0_claimsOn_54 (zrf_rf _) ?_
        refine D_gI eX0_claimsOn_55 fq_X0_301_tI H (fun v8 H => ?_)
        refine V_iadd eX0_claimsOn_58 ?_
        refine V_istore2 (znl_rf _) eX0_claimsOn_59 rfl ?_
        exact V_fg2 (b_X0_claimsOn_60 hk5 H) (zfg_k (zfg_k (zfg_k (zfg_n (zfg_k (zfg_n zfg_e))))))
theorem b_X0_claimsOn_5 {w : Wd} {F : Nat} {x : Nat} {a1 : Option Nat} : ∀ (n : Nat) (a2 : Int32) (a4 : Int32) (h : Hp) (y : Int32) (h1 : Hp) (c s : Nat), d_X0_claimsOn_5 w F x a1 n a2 a4 h = some (y, h1, c, s) → V w mX0_claimsOn cX0_claimsOn 3 c s h 5 [some (va_rf (some x)), some (va_rf a1), some (.int a2), none, some (.int a4), none] [] (Ro (oI y) h1) := by
  intro n
  induction n with
  | zero => intro a2 a4 h y h1 c s H; exact zno_no H
  | succ n ih => intro a2 a4 h y h1 c s H; exact bB_X0_claimsOn_5 ih H
theorem c_X0_claimsOn {w : Wd} {F : Nat} {x : Nat} {a1 : Option Nat} {h h1 : Hp} {y : Int32} {c s : Nat} (H : o_X0_claimsOn w F x a1 h = some (y, h1, c, s)) : Con w mX0_claimsOn cX0_claimsOn 3 c s [.ref x, va_rf a1] h (Ro (oI y) h1) := by
  unfold o_X0_claimsOn at H
  refine Con.of (ls := [some (va_rf (some x)), some (va_rf a1), none, none, none, none]) (by decide +kernel) (by simp only [zsl_r, zsl_i, zsl_l, zsl_n, zsl_a]; rfl) (by simp only [zar_r, zar_i, zar_l, zar_n, zar_a]; rfl) ?_
  refine V_iconst (v := 0) (by decide) eX0_claimsOn_0 ?_
  refine V_istore2 (znl_rf _) eX0_claimsOn_1 rfl ?_
  refine V_iconst (v := 0) (by decide) eX0_claimsOn_2 ?_
  refine V_istore4 rfl eX0_claimsOn_3 rfl ?_
  exact V_fg2 (b_X0_claimsOn_5 _ _ _ _ _ _ _ _ H) (zfg_k (zfg_k (zfg_k (zfg_n (zfg_k (zfg_n zfg_e))))))
theorem fq_X9_13_tI : FQ RX9 13 f_X9_op tI := by
  intro k j e
  unfold f_X9_op at e
  split at e
  · cases e; exact ⟨fl_X9_13_9, Or.inl rfl⟩
  · cases e
theorem fq_X9_7_tI : FQ RX9 7 f_X9_which tI := by
  intro k j e
  unfold f_X9_which at e
  split at e
  · cases e; exact ⟨fl_X9_7_9, Or.inl rfl⟩
  · cases e
theorem fq_X9_16_tI : FQ RX9 16 f_X9_number tI := by
  intro k j e
  unfold f_X9_number at e
  split at e
  · cases e; exact ⟨fl_X9_16_9, Or.inl rfl⟩
  · cases e
def d_X9_holds_78 (w : Wd) (F : Nat) (s0 : Int32) : M Int32 :=
  zbd (zgd (s0 = 0 ∨ s0 = 1)) fun _ => zrt s0
def o_X9_holds (w : Wd) (F : Nat) (x : Nat) (a1 : Option Nat) : M Int32 :=
  zbd (zgI f_X9_op (some x)) fun v1 =>
  zif (v1 = (60 : Int32)) (zbd (zgI f_X9_which (some x)) fun v9 =>
  zbd (zaI 0 a1 v9) fun v10 =>
  zbd (zgI f_X9_number (some x)) fun v11 =>
  zif (v11 ≤ v10) (d_X9_holds_78 w F (0 : Int32))
  (d_X9_holds_78 w F (1 : Int32)))
  (zbd (zgI f_X9_op (some x)) fun v2 =>
  zif (v2 = (61 : Int32)) (zbd (zgI f_X9_which (some x)) fun v6 =>
  zbd (zaI 0 a1 v6) fun v7 =>
  zbd (zgI f_X9_number (some x)) fun v8 =>
  zif (v7 = v8) (d_X9_holds_78 w F (1 : Int32))
  (d_X9_holds_78 w F (0 : Int32)))
  (zbd (zgI f_X9_which (some x)) fun v3 =>
  zbd (zaI 0 a1 v3) fun v4 =>
  zbd (zgI f_X9_number (some x)) fun v5 =>
  zif (v4 ≤ v5) (d_X9_holds_78 w F (0 : Int32))
  (d_X9_holds_78 w F (1 : Int32))))
theorem b_X9_holds_78 {w : Wd} {F L0 k0 : Nat} {s0 : Int32} {h h1 : Hp} {y : Int32} {c s : Nat} (H : d_X9_holds_78 w F s0 h = some (y, h1, c, s)) : V w mX9_holds cX9_holds (L0 + (k0 + 4)) c s h 78 [none, none] [.int s0] (Ro (oI y) h1) := by
  unfold d_X9_holds_78 at H
  obtain ⟨q, H⟩ := zgd_ok H
  obtain ⟨rfl, rfl, rfl, rfl⟩ := zrt_ok H
  exact V_zreturn eX9_holds_78 rfl q ⟨rfl, rfl⟩
theorem c_X9_holds {w : Wd} {F L0 k0 : Nat} {x : Nat} {a1 : Option Nat} {h h1 : Hp} {y : Int32} {c s : Nat} (H : o_X9_holds w F x a1 h = some (y, h1, c, s)) : Con w mX9_holds cX9_holds (L0 + (k0 + 4)) c s [.ref x, va_rf a1] h (Ro (oI y) h1) := by
  unfold o_X9_holds at H
  refine Con.of (ls := [some (va_rf (some x)), some (va_rf a1)]) (by decide +kernel) (by simp only [zsl_r, zsl_i, zsl_l, zsl_n, zsl_a]; rfl) (by simp only [zar_r, zar_i, zar_l, zar_n, zar_a]; rfl) ?_
  refine V_aload0 eX9_holds_0 (zrf_rf _) ?_
  refine D_gI eX9_holds_1 fq_X9_13_tI H (fun v1 H => ?_)
  refine V_bipush (v := 60) (by decide) eX9_holds_4 ?_
  refine V_if_icmpne eX9_holds_6 (fun q => ?_) (fun q => ?_)
  · have H := zif_f q H
    refine V_aload0 eX9_holds_30 (zrf_rf _) ?_
    refine D_gI eX9_holds_31 fq_X9_13_tI H (fun v2 H => ?_)
    refine V_bipush (v := 61) (by decide) eX9_holds_34 ?_
    refine V_if_icmpne eX9_holds_36 (fun q => ?_) (fun q => ?_)
    · have H := zif_f q H
      refine V_aload1 eX9_holds_60 (zrf_rf _) ?_
      refine V_aload0 eX9_holds_61 (zrf_rf _) ?_
      refine D_gI eX9_holds_62 fq_X9_7_tI H (fun v3 H => ?_)
      refine D_iaload eX9_holds_65 H (fun v4 H => ?_)
      refine V_aload0 eX9_holds_66 (zrf_rf _) ?_
      refine D_gI eX9_holds_67 fq_X9_16_tI H (fun v5 H => ?_)
      refine V_if_icmple eX9_holds_70 (fun q => ?_) (fun q => ?_)
      · have H := zif_t q H
        refine V_iconst (v := 0) (by decide) eX9_holds_77 ?_
        exact V_fg2 (b_X9_holds_78 H) (zfg_n (zfg_n zfg_e))
      · have H := zif_f q H
        refine V_iconst (v := 1) (by decide) eX9_holds_73 ?_
        refine V_goto eX9_holds_74 ?_
        exact V_fg2 (b_X9_holds_78 H) (zfg_n (zfg_n zfg_e))
    · have H := zif_t q H
      refine V_aload1 eX9_holds_39 (zrf_rf _) ?_
      refine V_aload0 eX9_holds_40 (zrf_rf _) ?_
      refine D_gI eX9_holds_41 fq_X9_7_tI H (fun v6 H => ?_)
      refine D_iaload eX9_holds_44 H (fun v7 H => ?_)
      refine V_aload0 eX9_holds_45 (zrf_rf _) ?_
      refine D_gI eX9_holds_46 fq_X9_16_tI H (fun v8 H => ?_)
      refine V_if_icmpne eX9_holds_49 (fun q => ?_) (fun q => ?_)
      · have H := zif_f q H
        refine V_iconst (v := 0) (by decide) eX9_holds_56 ?_
        refine V_goto eX9_holds_57 ?_
        exact V_fg2 (b_X9_holds_78 H) (zfg_n (zfg_n zfg_e))
      · have H := zif_t q H
        refine V_iconst (v := 1) (by decide) eX9_holds_52 ?_
        refine V_goto eX9_holds_53 ?_
        exact V_fg2 (b_X9_holds_78 H) (zfg_n (zfg_n zfg_e))
  · have H := zif_t q H
    refine V_aload1 eX9_holds_9 (zrf_rf _) ?_
    refine V_aload0 eX9_holds_10 (zrf_rf _) ?_
    refine D_gI eX9_holds_11 fq_X9_7_tI H (fun v9 H => ?_)
    refine D_iaload eX9_holds_14 H (fun v10 H => ?_)
    refine V_aload0 eX9_holds_15 (zrf_rf _) ?_
    refine D_gI eX9_holds_16 fq_X9_16_tI H (fun v11 H => ?_)
    refine V_if_icmpge eX9_holds_19 (fun q => ?_) (fun q => ?_)
    · have H := zif_t q H
      refine V_iconst (v := 0) (by decide) eX9_holds_26 ?_
      refine V_goto eX9_holds_27 ?_
      exact V_fg2 (b_X9_holds_78 H) (zfg_n (zfg_n zfg_e))
    · have H := zif_f q H
      refine V_iconst (v := 1) (by decide) eX9_holds_22 ?_
      refine V_goto eX9_holds_23 ?_
      exact V_fg2 (b_X9_holds_78 H) (zfg_n (zfg_n zfg_e))
def d_X8_holds_16 (w : Wd) (F : Nat) (rX7_holds : Option Nat → Option Nat → M Int32) (s0 : Int32) : M Int32 :=
  zbd (zgd (s0 = 0 ∨ s0 = 1)) fun _ => zrt s0
def o_X8_holds (w : Wd) (F : Nat) (rX7_holds : Option Nat → Option Nat → M Int32) (x : Nat) (a1 : Option Nat) : M Int32 :=
  zbd (zgR f_X8_of (some x)) fun v1 =>
  zbd (rX7_holds v1 a1) fun v2 =>
  zif (v2 = 0) (d_X8_holds_16 w F rX7_holds (1 : Int32))
  (d_X8_holds_16 w F rX7_holds (0 : Int32))
theorem b_X8_holds_16 {w : Wd} {F L0 k0 : Nat} {rX7_holds : Option Nat → Option Nat → M Int32} (hrX7_holds : ∀ (r : Option Nat) (p : Option Nat) (h : Hp) (y : Int32) (h1 : Hp) (c s : Nat), rX7_holds r p h = some (y, h1, c, s) → ∃ a, r = some a ∧ a < hZ h ∧ ((zkd (hT h a) = 8 ∧ Con w mX8_holds cX8_holds L0 c s [.ref a, va_rf p] h (Ro (oI y) h1)) ∨ (zkd (hT h a) = 9 ∧ Con w mX9_holds cX9_holds L0 c s [.ref a, va_rf p] h (Ro (oI y) h1)) ∨ (zkd (hT h a) = 10 ∧ Con w mX10_holds cX10_holds L0 c s [.ref a, va_rf p] h (Ro (oI y) h1)) ∨ (zkd (hT h a) = 11 ∧ Con w mX11_holds cX11_holds L0 c s [.ref a, va_rf p] h (Ro (oI y) h1)))) {s0 : Int32} {h h1 : Hp} {y : Int32} {c s : Nat} (H : d_X8_holds_16 w F rX7_holds s0 h = some (y, h1, c, s)) : V w mX8_holds cX8_holds (L0 + (k0 + 4)) c s h 16 [none, none] [.int s0] (Ro (oI y) h1) := by
  unfold d_X8_holds_16 at H
  obtain ⟨q, H⟩ := zgd_ok H
  obtain ⟨rfl, rfl, rfl, rfl⟩ := zrt_ok H
  exact V_zreturn eX8_holds_16 rfl q ⟨rfl, rfl⟩
theorem c_X8_holds {w : Wd} {F L0 k0 : Nat} {rX7_holds : Option Nat → Option Nat → M Int32} (hrX7_holds : ∀ (r : Option Nat) (p : Option Nat) (h : Hp) (y : Int32) (h1 : Hp) (c s : Nat), rX7_holds r p h = some (y, h1, c, s) → ∃ a, r = some a ∧ a < hZ h ∧ ((zkd (hT h a) = 8 ∧ Con w mX8_holds cX8_holds L0 c s [.ref a, va_rf p] h (Ro (oI y) h1)) ∨ (zkd (hT h a) = 9 ∧ Con w mX9_holds cX9_holds L0 c s [.ref a, va_rf p] h (Ro (oI y) h1)) ∨ (zkd (hT h a) = 10 ∧ Con w mX10_holds cX10_holds L0 c s [.ref a, va_rf p] h (Ro (oI y) h1)) ∨ (zkd (hT h a) = 11 ∧ Con w mX11_holds cX11_holds L0 c s [.ref a, va_rf p] h (Ro (oI y) h1)))) {x : Nat} {a1 : Option Nat} {h h1 : Hp} {y : Int32} {c s : Nat} (H : o_X8_holds w F rX7_holds x a1 h = some (y, h1, c, s)) : Con w mX8_holds cX8_holds (L0 + (k0 + 4)) c s [.ref x, va_rf a1] h (Ro (oI y) h1) := by
  unfold o_X8_holds at H
  refine Con.of (ls := [some (va_rf (some x)), some (va_rf a1)]) (by decide +kernel) (by simp only [zsl_r, zsl_i, zsl_l, zsl_n, zsl_a]; rfl) (by simp only [zar_r, zar_i, zar_l, zar_n, zar_a]; rfl) ?_
  refine V_aload0 eX8_holds_0 (zrf_rf _) ?_
  refine D_gR eX8_holds_1 fq_X8_7_tR H (fun v1 H => ?_)
  refine V_aload1 eX8_holds_4 (zrf_rf _) ?_
  refine D_callI (pc' := 8) (st := []) H (fun v h' c1 s1 e cb sb k => ?_) (fun v2 h c s H => ?_)
  · obtain ⟨a, hr, ha, e9⟩ := hrX7_holds _ _ _ _ _ _ _ e
    cases hr
    rcases e9 with ⟨hk, e9⟩ | ⟨hk, e9⟩ | ⟨hk, e9⟩ | ⟨hk, e9⟩
    · exact V_invokevirtualU (k := 8) eX8_holds_5 lmX8_holds (⟨"LinesPromised$Test", q1091, q1078, q1094, q1089, q117, ⟨by decide, by decide⟩, rfl, Or.inr (Or.inr q1077)⟩) (by decide) ha hk e9 (hRet_oI _ _) (zlt (by omega)) rfl rfl rfl (kOI k)
    · exact V_invokevirtualU (k := 9) eX8_holds_5 lmX9_holds (⟨"LinesPromised$Test", q1091, q1078, q1093, q1087, q118, ⟨by decide, by decide⟩, rfl, Or.inr (Or.inr q1077)⟩) (by decide) ha hk e9 (hRet_oI _ _) (zlt (by omega)) rfl rfl rfl (kOI k)
    · exact V_invokevirtualU (k := 10) eX8_holds_5 lmX10_holds (⟨"LinesPromised$Test", q1091, q1078, q1079, q1080, q119, ⟨by decide, by decide⟩, rfl, Or.inr (Or.inr q1077)⟩) (by decide) ha hk e9 (hRet_oI _ _) (zlt (by omega)) rfl rfl rfl (kOI k)
    · exact V_invokevirtualU (k := 11) eX8_holds_5 lmX11_holds (⟨"LinesPromised$Test", q1091, q1078, q1092, q1083, q120, ⟨by decide, by decide⟩, rfl, Or.inr (Or.inr q1077)⟩) (by decide) ha hk e9 (hRet_oI _ _) (zlt (by omega)) rfl rfl rfl (kOI k)
  refine V_ifne eX8_holds_8 (fun q => ?_) (fun q => ?_)
  · have H := zif_f q H
    refine V_iconst (v := 0) (by decide) eX8_holds_15 ?_
    exact V_fg2 (b_X8_holds_16 hrX7_holds H) (zfg_n (zfg_n zfg_e))
  · have H := zif_t q H
    refine V_iconst (v := 1) (by decide) eX8_holds_11 ?_
    refine V_goto eX8_holds_12 ?_
    exact V_fg2 (b_X8_holds_16 hrX7_holds H) (zfg_n (zfg_n zfg_e))
def d_X10_holds_27 (w : Wd) (F : Nat) (rX7_holds : Option Nat → Option Nat → M Int32) (s0 : Int32) : M Int32 :=
  zbd (zgd (s0 = 0 ∨ s0 = 1)) fun _ => zrt s0
def d_X10_holds_26 (w : Wd) (F : Nat) (rX7_holds : Option Nat → Option Nat → M Int32) : M Int32 :=
  d_X10_holds_27 w F rX7_holds (0 : Int32)
def o_X10_holds (w : Wd) (F : Nat) (rX7_holds : Option Nat → Option Nat → M Int32) (x : Nat) (a1 : Option Nat) : M Int32 :=
  zbd (zgR f_X10_first (some x)) fun v1 =>
  zbd (rX7_holds v1 a1) fun v2 =>
  zif (v2 = 0) (d_X10_holds_26 w F rX7_holds)
  (zbd (zgR f_X10_second (some x)) fun v3 =>
  zbd (rX7_holds v3 a1) fun v4 =>
  zif (v4 = 0) (d_X10_holds_26 w F rX7_holds)
  (d_X10_holds_27 w F rX7_holds (1 : Int32)))
theorem b_X10_holds_27 {w : Wd} {F L0 k0 : Nat} {rX7_holds : Option Nat → Option Nat → M Int32} (hrX7_holds : ∀ (r : Option Nat) (p : Option Nat) (h : Hp) (y : Int32) (h1 : Hp) (c s : Nat), rX7_holds r p h = some (y, h1, c, s) → ∃ a, r = some a ∧ a < hZ h ∧ ((zkd (hT h a) = 8 ∧ Con w mX8_holds cX8_holds L0 c s [.ref a, va_rf p] h (Ro (oI y) h1)) ∨ (zkd (hT h a) = 9 ∧ Con w mX9_holds cX9_holds L0 c s [.ref a, va_rf p] h (Ro (oI y) h1)) ∨ (zkd (hT h a) = 10 ∧ Con w mX10_holds cX10_holds L0 c s [.ref a, va_rf p] h (Ro (oI y) h1)) ∨ (zkd (hT h a) = 11 ∧ Con w mX11_holds cX11_holds L0 c s [.ref a, va_rf p] h (Ro (oI y) h1)))) {s0 : Int32} {h h1 : Hp} {y : Int32} {c s : Nat} (H : d_X10_holds_27 w F rX7_holds s0 h = some (y, h1, c, s)) : V w mX10_holds cX10_holds (L0 + (k0 + 4)) c s h 27 [none, none] [.int s0] (Ro (oI y) h1) := by
  unfold d_X10_holds_27 at H
  obtain ⟨q, H⟩ := zgd_ok H
  obtain ⟨rfl, rfl, rfl, rfl⟩ := zrt_ok H
  exact V_zreturn eX10_holds_27 rfl q ⟨rfl, rfl⟩
theorem b_X10_holds_26 {w : Wd} {F L0 k0 : Nat} {rX7_holds : Option Nat → Option Nat → M Int32} (hrX7_holds : ∀ (r : Option Nat) (p : Option Nat) (h : Hp) (y : Int32) (h1 : Hp) (c s : Nat), rX7_holds r p h = some (y, h1, c, s) → ∃ a, r = some a ∧ a < hZ h ∧ ((zkd (hT h a) = 8 ∧ Con w mX8_holds cX8_holds L0 c s [.ref a, va_rf p] h (Ro (oI y) h1)) ∨ (zkd (hT h a) = 9 ∧ Con w mX9_holds cX9_holds L0 c s [.ref a, va_rf p] h (Ro (oI y) h1)) ∨ (zkd (hT h a) = 10 ∧ Con w mX10_holds cX10_holds L0 c s [.ref a, va_rf p] h (Ro (oI y) h1)) ∨ (zkd (hT h a) = 11 ∧ Con w mX11_holds cX11_holds L0 c s [.ref a, va_rf p] h (Ro (oI y) h1)))) {h h1 : Hp} {y : Int32} {c s : Nat} (H : d_X10_holds_26 w F rX7_holds h = some (y, h1, c, s)) : V w mX10_holds cX10_holds (L0 + (k0 + 4)) c s h 26 [none, none] [] (Ro (oI y) h1) := by
  unfold d_X10_holds_26 at H
  refine V_iconst (v := 0) (by decide) eX10_holds_26 ?_
  exact V_fg2 (b_X10_holds_27 hrX7_holds H) (zfg_n (zfg_n zfg_e))
theorem c_X10_holds {w : Wd} {F L0 k0 : Nat} {rX7_holds : Option Nat → Option Nat → M Int32} (hrX7_holds : ∀ (r : Option Nat) (p : Option Nat) (h : Hp) (y : Int32) (h1 : Hp) (c s : Nat), rX7_holds r p h = some (y, h1, c, s) → ∃ a, r = some a ∧ a < hZ h ∧ ((zkd (hT h a) = 8 ∧ Con w mX8_holds cX8_holds L0 c s [.ref a, va_rf p] h (Ro (oI y) h1)) ∨ (zkd (hT h a) = 9 ∧ Con w mX9_holds cX9_holds L0 c s [.ref a, va_rf p] h (Ro (oI y) h1)) ∨ (zkd (hT h a) = 10 ∧ Con w mX10_holds cX10_holds L0 c s [.ref a, va_rf p] h (Ro (oI y) h1)) ∨ (zkd (hT h a) = 11 ∧ Con w mX11_holds cX11_holds L0 c s [.ref a, va_rf p] h (Ro (oI y) h1)))) {x : Nat} {a1 : Option Nat} {h h1 : Hp} {y : Int32} {c s : Nat} (H : o_X10_holds w F rX7_holds x a1 h = some (y, h1, c, s)) : Con w mX10_holds cX10_holds (L0 + (k0 + 4)) c s [.ref x, va_rf a1] h (Ro (oI y) h1) := by
  unfold o_X10_holds at H
  refine Con.of (ls := [some (va_rf (some x)), some (va_rf a1)]) (by decide +kernel) (by simp only [zsl_r, zsl_i, zsl_l, zsl_n, zsl_a]; rfl) (by simp only [zar_r, zar_i, zar_l, zar_n, zar_a]; rfl) ?_
  refine V_aload0 eX10_holds_0 (zrf_rf _) ?_
  refine D_gR eX10_holds_1 fq_X10_7_tR H (fun v1 H => ?_)
  refine V_aload1 eX10_holds_4 (zrf_rf _) ?_
  refine D_callI (pc' := 8) (st := []) H (fun v h' c1 s1 e cb sb k => ?_) (fun v2 h c s H => ?_)
  · obtain ⟨a, hr, ha, e9⟩ := hrX7_holds _ _ _ _ _ _ _ e
    cases hr
    rcases e9 with ⟨hk, e9⟩ | ⟨hk, e9⟩ | ⟨hk, e9⟩ | ⟨hk, e9⟩
    · exact V_invokevirtualU (k := 8) eX10_holds_5 lmX8_holds (⟨"LinesPromised$Test", q1082, q1078, q1094, q1089, q117, ⟨by decide, by decide⟩, rfl, Or.inr (Or.inr q1077)⟩) (by decide) ha hk e9 (hRet_oI _ _) (zlt (by omega)) rfl rfl rfl (kOI k)
    · exact V_invokevirtualU (k := 9) eX10_holds_5 lmX9_holds (⟨"LinesPromised$Test", q1082, q1078, q1093, q1087, q118, ⟨by decide, by decide⟩, rfl, Or.inr (Or.inr q1077)⟩) (by decide) ha hk e9 (hRet_oI _ _) (zlt (by omega)) rfl rfl rfl (kOI k)
    · exact V_invokevirtualU (k := 10) eX10_holds_5 lmX10_holds (⟨"LinesPromised$Test", q1082, q1078, q1079, q1080, q119, ⟨by decide, by decide⟩, rfl, Or.inr (Or.inr q1077)⟩) (by decide) ha hk e9 (hRet_oI _ _) (zlt (by omega)) rfl rfl rfl (kOI k)
    · exact V_invokevirtualU (k := 11) eX10_holds_5 lmX11_holds (⟨"LinesPromised$Test", q1082, q1078, q1092, q1083, q120, ⟨by decide, by decide⟩, rfl, Or.inr (Or.inr q1077)⟩) (by decide) ha hk e9 (hRet_oI _ _) (zlt (by omega)) rfl rfl rfl (kOI k)
  refine V_ifeq eX10_holds_8 (fun q => ?_) (fun q => ?_)
  · have H := zif_t q H
    exact V_fg2 (b_X10_holds_26 hrX7_holds H) (zfg_n (zfg_n zfg_e))
  · have H := zif_f q H
    refine V_aload0 eX10_holds_11 (zrf_rf _) ?_
    refine D_gR eX10_holds_12 fq_X10_13_tR H (fun v3 H => ?_)
    refine V_aload1 eX10_holds_15 (zrf_rf _) ?_
    refine D_callI (pc' := 19) (st := []) H (fun v h' c1 s1 e cb sb k => ?_) (fun v4 h c s H => ?_)
    · obtain ⟨a, hr, ha, e9⟩ := hrX7_holds _ _ _ _ _ _ _ e
      cases hr
      rcases e9 with ⟨hk, e9⟩ | ⟨hk, e9⟩ | ⟨hk, e9⟩ | ⟨hk, e9⟩
      · exact V_invokevirtualU (k := 8) eX10_holds_16 lmX8_holds (⟨"LinesPromised$Test", q1082, q1078, q1094, q1089, q117, ⟨by decide, by decide⟩, rfl, Or.inr (Or.inr q1077)⟩) (by decide) ha hk e9 (hRet_oI _ _) (zlt (by omega)) rfl rfl rfl (kOI k)
      · exact V_invokevirtualU (k := 9) eX10_holds_16 lmX9_holds (⟨"LinesPromised$Test", q1082, q1078, q1093, q1087, q118, ⟨by decide, by decide⟩, rfl, Or.inr (Or.inr q1077)⟩) (by decide) ha hk e9 (hRet_oI _ _) (zlt (by omega)) rfl rfl rfl (kOI k)
      · exact V_invokevirtualU (k := 10) eX10_holds_16 lmX10_holds (⟨"LinesPromised$Test", q1082, q1078, q1079, q1080, q119, ⟨by decide, by decide⟩, rfl, Or.inr (Or.inr q1077)⟩) (by decide) ha hk e9 (hRet_oI _ _) (zlt (by omega)) rfl rfl rfl (kOI k)
      · exact V_invokevirtualU (k := 11) eX10_holds_16 lmX11_holds (⟨"LinesPromised$Test", q1082, q1078, q1092, q1083, q120, ⟨by decide, by decide⟩, rfl, Or.inr (Or.inr q1077)⟩) (by decide) ha hk e9 (hRet_oI _ _) (zlt (by omega)) rfl rfl rfl (kOI k)
    refine V_ifeq eX10_holds_19 (fun q => ?_) (fun q => ?_)
    · have H := zif_t q H
      exact V_fg2 (b_X10_holds_26 hrX7_holds H) (zfg_n (zfg_n zfg_e))
    · have H := zif_f q H
      refine V_iconst (v := 1) (by decide) eX10_holds_22 ?_
      refine V_goto eX10_holds_23 ?_
      exact V_fg2 (b_X10_holds_27 hrX7_holds H) (zfg_n (zfg_n zfg_e))
def f_X11_first : Nat → Option Nat := fun k => match k with
  | 10 => some 0
  | 11 => some 0
  | _ => none
theorem fq_X11_11_tR : FQ RX11 11 f_X11_first tR := by
  intro k j e
  unfold f_X11_first at e
  split at e
  · cases e; exact ⟨fl_X11_11_10, Or.inl ⟨_, rfl⟩⟩
  · cases e; exact ⟨fl_X11_11_11, Or.inl ⟨_, rfl⟩⟩
  · cases e
def f_X11_second : Nat → Option Nat := fun k => match k with
  | 10 => some 1
  | 11 => some 1
  | _ => none
theorem fq_X11_20_tR : FQ RX11 20 f_X11_second tR := by
  intro k j e
  unfold f_X11_second at e
  split at e
  · cases e; exact ⟨fl_X11_20_10, Or.inl ⟨_, rfl⟩⟩
  · cases e; exact ⟨fl_X11_20_11, Or.inl ⟨_, rfl⟩⟩
  · cases e
def d_X11_holds_35 (w : Wd) (F : Nat) (rX7_holds : Option Nat → Option Nat → M Int32) (s0 : Int32) : M Int32 :=
  zbd (zgd (s0 = 0 ∨ s0 = 1)) fun _ => zrt s0
def d_X11_holds_30 (w : Wd) (F : Nat) (rX7_holds : Option Nat → Option Nat → M Int32) : M Int32 :=
  d_X11_holds_35 w F rX7_holds (1 : Int32)
def o_X11_holds (w : Wd) (F : Nat) (rX7_holds : Option Nat → Option Nat → M Int32) (x : Nat) (a1 : Option Nat) : M Int32 :=
  zbd (zv0 (some x) (fun a => o_X10_holds w F rX7_holds a a1)) fun v1 =>
  zif (v1 = 0) (zbd (zgR f_X11_first (some x)) fun v2 =>
  zbd (rX7_holds v2 a1) fun v3 =>
  zif (v3 = 0) (zbd (zgR f_X11_second (some x)) fun v4 =>
  zbd (rX7_holds v4 a1) fun v5 =>
  zif (v5 = 0) (d_X11_holds_35 w F rX7_holds (0 : Int32))
  (d_X11_holds_30 w F rX7_holds))
  (d_X11_holds_30 w F rX7_holds))
  (d_X11_holds_30 w F rX7_holds)
theorem b_X11_holds_35 {w : Wd} {F L0 k0 : Nat} {rX7_holds : Option Nat → Option Nat → M Int32} (hrX7_holds : ∀ (r : Option Nat) (p : Option Nat) (h : Hp) (y : Int32) (h1 : Hp) (c s : Nat), rX7_holds r p h = some (y, h1, c, s) → ∃ a, r = some a ∧ a < hZ h ∧ ((zkd (hT h a) = 8 ∧ Con w mX8_holds cX8_holds L0 c s [.ref a, va_rf p] h (Ro (oI y) h1)) ∨ (zkd (hT h a) = 9 ∧ Con w mX9_holds cX9_holds L0 c s [.ref a, va_rf p] h (Ro (oI y) h1)) ∨ (zkd (hT h a) = 10 ∧ Con w mX10_holds cX10_holds L0 c s [.ref a, va_rf p] h (Ro (oI y) h1)) ∨ (zkd (hT h a) = 11 ∧ Con w mX11_holds cX11_holds L0 c s [.ref a, va_rf p] h (Ro (oI y) h1)))) {s0 : Int32} {h h1 : Hp} {y : Int32} {c s : Nat} (H : d_X11_holds_35 w F rX7_holds s0 h = some (y, h1, c, s)) : V w mX11_holds cX11_holds (L0 + (k0 + 8)) c s h 35 [none, none] [.int s0] (Ro (oI y) h1) := by
  unfold d_X11_holds_35 at H
  obtain ⟨q, H⟩ := zgd_ok H
  obtain ⟨rfl, rfl, rfl, rfl⟩ := zrt_ok H
  exact V_zreturn eX11_holds_35 rfl q ⟨rfl, rfl⟩
theorem b_X11_holds_30 {w : Wd} {F L0 k0 : Nat} {rX7_holds : Option Nat → Option Nat → M Int32} (hrX7_holds : ∀ (r : Option Nat) (p : Option Nat) (h : Hp) (y : Int32) (h1 : Hp) (c s : Nat), rX7_holds r p h = some (y, h1, c, s) → ∃ a, r = some a ∧ a < hZ h ∧ ((zkd (hT h a) = 8 ∧ Con w mX8_holds cX8_holds L0 c s [.ref a, va_rf p] h (Ro (oI y) h1)) ∨ (zkd (hT h a) = 9 ∧ Con w mX9_holds cX9_holds L0 c s [.ref a, va_rf p] h (Ro (oI y) h1)) ∨ (zkd (hT h a) = 10 ∧ Con w mX10_holds cX10_holds L0 c s [.ref a, va_rf p] h (Ro (oI y) h1)) ∨ (zkd (hT h a) = 11 ∧ Con w mX11_holds cX11_holds L0 c s [.ref a, va_rf p] h (Ro (oI y) h1)))) {h h1 : Hp} {y : Int32} {c s : Nat} (H : d_X11_holds_30 w F rX7_holds h = some (y, h1, c, s)) : V w mX11_holds cX11_holds (L0 + (k0 + 8)) c s h 30 [none, none] [] (Ro (oI y) h1) := by
  unfold d_X11_holds_30 at H
  refine V_iconst (v := 1) (by decide) eX11_holds_30 ?_
  refine V_goto eX11_holds_31 ?_
  exact V_fg2 (b_X11_holds_35 hrX7_holds H) (zfg_n (zfg_n zfg_e))
theorem c_X11_holds {w : Wd} {F L0 k0 : Nat} {rX7_holds : Option Nat → Option Nat → M Int32} (hrX7_holds : ∀ (r : Option Nat) (p : Option Nat) (h : Hp) (y : Int32) (h1 : Hp) (c s : Nat), rX7_holds r p h = some (y, h1, c, s) → ∃ a, r = some a ∧ a < hZ h ∧ ((zkd (hT h a) = 8 ∧ Con w mX8_holds cX8_holds L0 c s [.ref a, va_rf p] h (Ro (oI y) h1)) ∨ (zkd (hT h a) = 9 ∧ Con w mX9_holds cX9_holds L0 c s [.ref a, va_rf p] h (Ro (oI y) h1)) ∨ (zkd (hT h a) = 10 ∧ Con w mX10_holds cX10_holds L0 c s [.ref a, va_rf p] h (Ro (oI y) h1)) ∨ (zkd (hT h a) = 11 ∧ Con w mX11_holds cX11_holds L0 c s [.ref a, va_rf p] h (Ro (oI y) h1)))) {x : Nat} {a1 : Option Nat} {h h1 : Hp} {y : Int32} {c s : Nat} (H : o_X11_holds w F rX7_holds x a1 h = some (y, h1, c, s)) : Con w mX11_holds cX11_holds (L0 + (k0 + 8)) c s [.ref x, va_rf a1] h (Ro (oI y) h1) := by
  unfold o_X11_holds at H
  refine Con.of (ls := [some (va_rf (some x)), some (va_rf a1)]) (by decide +kernel) (by simp only [zsl_r, zsl_i, zsl_l, zsl_n, zsl_a]; rfl) (by simp only [zar_r, zar_i, zar_l, zar_n, zar_a]; rfl) ?_
  refine V_aload0 eX11_holds_0 (zrf_rf _) ?_
  refine V_aload1 eX11_holds_1 (zrf_rf _) ?_
  refine D_callI (pc' := 5) (st := []) H (fun v h' c1 s1 e cb sb k => ?_) (fun v1 h c s H => ?_)
  · obtain ⟨a, hr, ha, ok, e9⟩ := zv0_ok e
    cases hr
    exact V_invokesuper eX11_holds_2 lmX10_holds q1085 q2416 q505 q1080 (by decide) ok ha rfl (c_X10_holds (k0 := 0) hrX7_holds e9) (hRet_oI _ _) (zlt (by omega)) rfl rfl rfl (kOI k)
  refine V_ifne eX11_holds_5 (fun q => ?_) (fun q => ?_)
  · have H := zif_f q H
    exact V_fg2 (b_X11_holds_30 hrX7_holds H) (zfg_n (zfg_n zfg_e))
  · have H := zif_t q H
    refine V_aload0 eX11_holds_8 (zrf_rf _) ?_
    refine D_gR eX11_holds_9 fq_X11_11_tR H (fun v2 H => ?_)
    refine V_aload1 eX11_holds_12 (zrf_rf _) ?_
    refine D_callI (pc' := 16) (st := []) H (fun v h' c1 s1 e cb sb k => ?_) (fun v3 h c s H => ?_)
    · obtain ⟨a, hr, ha, e9⟩ := hrX7_holds _ _ _ _ _ _ _ e
      cases hr
      rcases e9 with ⟨hk, e9⟩ | ⟨hk, e9⟩ | ⟨hk, e9⟩ | ⟨hk, e9⟩
      · exact V_invokevirtualU (k := 8) eX11_holds_13 lmX8_holds (⟨"LinesPromised$Test", q1086, q1078, q1094, q1089, q117, ⟨by decide, by decide⟩, rfl, Or.inr (Or.inr q1077)⟩) (by decide) ha hk e9 (hRet_oI _ _) (zlt (by omega)) rfl rfl rfl (kOI k)
      · exact V_invokevirtualU (k := 9) eX11_holds_13 lmX9_holds (⟨"LinesPromised$Test", q1086, q1078, q1093, q1087, q118, ⟨by decide, by decide⟩, rfl, Or.inr (Or.inr q1077)⟩) (by decide) ha hk e9 (hRet_oI _ _) (zlt (by omega)) rfl rfl rfl (kOI k)
      · exact V_invokevirtualU (k := 10) eX11_holds_13 lmX10_holds (⟨"LinesPromised$Test", q1086, q1078, q1079, q1080, q119, ⟨by decide, by decide⟩, rfl, Or.inr (Or.inr q1077)⟩) (by decide) ha hk e9 (hRet_oI _ _) (zlt (by omega)) rfl rfl rfl (kOI k)
      · exact V_invokevirtualU (k := 11) eX11_holds_13 lmX11_holds (⟨"LinesPromised$Test", q1086, q1078, q1092, q1083, q120, ⟨by decide, by decide⟩, rfl, Or.inr (Or.inr q1077)⟩) (by decide) ha hk e9 (hRet_oI _ _) (zlt (by omega)) rfl rfl rfl (kOI k)
    refine V_ifne eX11_holds_16 (fun q => ?_) (fun q => ?_)
    · have H := zif_f q H
      exact V_fg2 (b_X11_holds_30 hrX7_holds H) (zfg_n (zfg_n zfg_e))
    · have H := zif_t q H
      refine V_aload0 eX11_holds_19 (zrf_rf _) ?_
      refine D_gR eX11_holds_20 fq_X11_20_tR H (fun v4 H => ?_)
      refine V_aload1 eX11_holds_23 (zrf_rf _) ?_
      refine D_callI (pc' := 27) (st := []) H (fun v h' c1 s1 e cb sb k => ?_) (fun v5 h c s H => ?_)
      · obtain ⟨a, hr, ha, e9⟩ := hrX7_holds _ _ _ _ _ _ _ e
        cases hr
        rcases e9 with ⟨hk, e9⟩ | ⟨hk, e9⟩ | ⟨hk, e9⟩ | ⟨hk, e9⟩
        · exact V_invokevirtualU (k := 8) eX11_holds_24 lmX8_holds (⟨"LinesPromised$Test", q1086, q1078, q1094, q1089, q117, ⟨by decide, by decide⟩, rfl, Or.inr (Or.inr q1077)⟩) (by decide) ha hk e9 (hRet_oI _ _) (zlt (by omega)) rfl rfl rfl (kOI k)
        · exact V_invokevirtualU (k := 9) eX11_holds_24 lmX9_holds (⟨"LinesPromised$Test", q1086, q1078, q1093, q1087, q118, ⟨by decide, by decide⟩, rfl, Or.inr (Or.inr q1077)⟩) (by decide) ha hk e9 (hRet_oI _ _) (zlt (by omega)) rfl rfl rfl (kOI k)
        · exact V_invokevirtualU (k := 10) eX11_holds_24 lmX10_holds (⟨"LinesPromised$Test", q1086, q1078, q1079, q1080, q119, ⟨by decide, by decide⟩, rfl, Or.inr (Or.inr q1077)⟩) (by decide) ha hk e9 (hRet_oI _ _) (zlt (by omega)) rfl rfl rfl (kOI k)
        · exact V_invokevirtualU (k := 11) eX11_holds_24 lmX11_holds (⟨"LinesPromised$Test", q1086, q1078, q1092, q1083, q120, ⟨by decide, by decide⟩, rfl, Or.inr (Or.inr q1077)⟩) (by decide) ha hk e9 (hRet_oI _ _) (zlt (by omega)) rfl rfl rfl (kOI k)
      refine V_ifeq eX11_holds_27 (fun q => ?_) (fun q => ?_)
      · have H := zif_t q H
        refine V_iconst (v := 0) (by decide) eX11_holds_34 ?_
        exact V_fg2 (b_X11_holds_35 hrX7_holds H) (zfg_n (zfg_n zfg_e))
      · have H := zif_f q H
        exact V_fg2 (b_X11_holds_30 hrX7_holds H) (zfg_n (zfg_n zfg_e))
def t_X7_holds (w : Wd) (F : Nat) (rX7_holds : Option Nat → Option Nat → M Int32) (p : Option Nat) : Nat → Option (Nat → M Int32) := fun k => match k with
  | 8 => some (fun a => o_X8_holds w F rX7_holds a p)
  | 9 => some (fun a => o_X9_holds w F a p)
  | 10 => some (fun a => o_X10_holds w F rX7_holds a p)
  | 11 => some (fun a => o_X11_holds w F rX7_holds a p)
  | _ => none
def z_X7_holds (w : Wd) (F : Nat) : Nat → Option Nat → Option Nat → M Int32
  | 0, _, _ => zno
  | n + 1, r, p => zvn (t_X7_holds w F (z_X7_holds w F n) p) r
theorem cz_X7_holds {w : Wd} {F : Nat} : ∀ (n : Nat), ∀ (r : Option Nat) (p : Option Nat) (h : Hp) (y : Int32) (h1 : Hp) (c s : Nat), z_X7_holds w F n r p h = some (y, h1, c, s) → ∃ a, r = some a ∧ a < hZ h ∧ ((zkd (hT h a) = 8 ∧ Con w mX8_holds cX8_holds (8 * n) c s [.ref a, va_rf p] h (Ro (oI y) h1)) ∨ (zkd (hT h a) = 9 ∧ Con w mX9_holds cX9_holds (8 * n) c s [.ref a, va_rf p] h (Ro (oI y) h1)) ∨ (zkd (hT h a) = 10 ∧ Con w mX10_holds cX10_holds (8 * n) c s [.ref a, va_rf p] h (Ro (oI y) h1)) ∨ (zkd (hT h a) = 11 ∧ Con w mX11_holds cX11_holds (8 * n) c s [.ref a, va_rf p] h (Ro (oI y) h1))) := by
  intro n
  induction n with
  | zero => intro r p h y h1 c s H; exact zno_no H
  | succ n ih =>
    intro r p h y h1 c s H
    obtain ⟨a, f, hr, ha, ht, e⟩ := zvn_ok H
    refine ⟨a, hr, ha, ?_⟩
    unfold t_X7_holds at ht
    split at ht
    · rename_i hk; cases ht; exact Or.inl ⟨hk, c_X8_holds (k0 := 4) ih e⟩
    · rename_i hk; cases ht; exact Or.inr (Or.inl ⟨hk, c_X9_holds (k0 := 4) e⟩)
    · rename_i hk; cases ht; exact Or.inr (Or.inr (Or.inl ⟨hk, c_X10_holds (k0 := 4) ih e⟩))
    · rename_i hk; cases ht; exact Or.inr (Or.inr (Or.inr (⟨hk, c_X11_holds (k0 := 0) ih e⟩)))
    · cases ht
theorem fq_X0_307_tR : FQ RX0 307 f_X6_test tR := by
  intro k j e
  unfold f_X6_test at e
  split at e
  · cases e; exact ⟨fl_X0_307_6, Or.inl ⟨_, rfl⟩⟩
  · cases e
theorem fq_X0_311_tI : FQ RX0 311 f_X3_trade tI := by
  intro k j e
  unfold f_X3_trade at e
  split at e
  · cases e; exact ⟨fl_X0_311_3, Or.inl rfl⟩
  · cases e
def f_X15_gauge : Nat → Option Nat := fun k => match k with
  | 13 => some 4
  | 15 => some 4
  | 18 => some 4
  | _ => none
theorem fq_X0_320_tI : FQ RX0 320 f_X15_gauge tI := by
  intro k j e
  unfold f_X15_gauge at e
  split at e
  · cases e; exact ⟨fl_X0_320_13, Or.inl rfl⟩
  · cases e; exact ⟨fl_X0_320_15, Or.inl rfl⟩
  · cases e; exact ⟨fl_X0_320_18, Or.inl rfl⟩
  · cases e
def o_X0_canLet (w : Wd) (F : Nat) (x : Nat) (a1 : Option Nat) (a2 : Int32) : M Int32 :=
  zbd (zv1 0 (some x) (fun a => o_X0_clauseFor w F a (6 : Int32) a2)) fun v1 =>
  zif (v1 = none) (zbd (zgd ((1 : Int32) = 0 ∨ (1 : Int32) = 1)) fun _ => zrt (1 : Int32))
  (zbd (zgR f_X18_plan a1) fun v2 =>
  zbd (zgR f_X6_test v1) fun v3 =>
  zbd (znA 100 0 (6 : Int32)) fun n4 =>
  zbd (zv1 0 (some x) (fun a => o_X0_yardsOf w F a v2)) fun v5 =>
  zbd (zsI 0 n4 (0 : Int32) (v5 / (10 : Int32))) fun _ =>
  zbd (zgR f_X15_from v2) fun v6 =>
  zbd (zgI f_X3_trade v6) fun v7 =>
  zbd (zgR f_X15_to v2) fun v8 =>
  zbd (zgI f_X3_trade v8) fun v9 =>
  zbd (zsI 0 n4 (1 : Int32) (v7 + v9)) fun _ =>
  zbd (zv1 0 (some x) (fun a => o_X0_cellsOf w F a v2 (2 : Int32))) fun v10 =>
  zbd (zsI 0 n4 (2 : Int32) v10) fun _ =>
  zbd (zv1 0 (some x) (fun a => o_X0_cellsOf w F a v2 (1 : Int32))) fun v11 =>
  zbd (zsI 0 n4 (3 : Int32) v11) fun _ =>
  zbd (zv1 0 (some x) (fun a => o_X0_claimsOn w F a v2)) fun v12 =>
  zbd (zsI 0 n4 (4 : Int32) v12) fun _ =>
  zbd (zgI f_X15_gauge v2) fun v13 =>
  zbd (zsI 0 n4 (5 : Int32) v13) fun _ =>
  zbd (z_X7_holds w F 100 v3 n4) fun v14 =>
  zbd (zgd (v14 = 0 ∨ v14 = 1)) fun _ => zrt v14)
theorem c_X0_canLet {w : Wd} {F : Nat} {x : Nat} {a1 : Option Nat} {a2 : Int32} {h h1 : Hp} {y : Int32} {c s : Nat} (H : o_X0_canLet w F x a1 a2 h = some (y, h1, c, s)) : Con w mX0_canLet cX0_canLet 801 c s [.ref x, va_rf a1, .int a2] h (Ro (oI y) h1) := by
  unfold o_X0_canLet at H
  refine Con.of (ls := [some (va_rf (some x)), some (va_rf a1), some (.int a2), none, none]) (by decide +kernel) (by simp only [zsl_r, zsl_i, zsl_l, zsl_n, zsl_a]; rfl) (by simp only [zar_r, zar_i, zar_l, zar_n, zar_a]; rfl) ?_
  refine V_aload0 eX0_canLet_0 (zrf_rf _) ?_
  refine V_bipush (v := 6) (by decide) eX0_canLet_1 ?_
  refine V_iload2 eX0_canLet_3 ?_
  refine D_callR (pc' := 7) (st := []) H (fun v h' c1 s1 e cb sb k => ?_) (fun v1 h c s H => ?_)
  · obtain ⟨a, hr, ha, hk, e9⟩ := zv1_ok e
    cases hr
    exact V_invokevirtual (k := 0) eX0_canLet_4 lmX0_clauseFor q534 q536 rfl rfl qs16 ha hk (c_X0_clauseFor e9) (hRet_oR _ _) rfl rfl rfl rfl (kOR k)
  refine V_astore3 rfl eX0_canLet_7 rfl (zrf_rf _) ?_
  refine V_aload3 eX0_canLet_8 (zrf_rf _) ?_
  refine V_ifnonnull eX0_canLet_9 (fun a q => ?_) (fun q => ?_)
  · have H := zif_f (zsn q) H
    refine V_aload1 eX0_canLet_14 (zrf_rf _) ?_
    refine D_gR eX0_canLet_15 fq_X0_303_tR H (fun v2 H => ?_)
    refine V_astore4 (znl_rf _) eX0_canLet_18 rfl (zrf_rf _) ?_
    refine V_aload3 eX0_canLet_20 (zrf_rf _) ?_
    refine D_gR eX0_canLet_21 fq_X0_307_tR H (fun v3 H => ?_)
    refine V_bipush (v := 6) (by decide) eX0_canLet_24 ?_
    refine D_newarray (g := 0) (κ := 100) (cT := 0) eX0_canLet_26 rfl rfl rfl q585 rfl (by decide) H (fun n4 h c s H => ?_)
    refine V_dup (zcr _) eX0_canLet_28 ?_
    refine V_iconst (v := 0) (by decide) eX0_canLet_29 ?_
    refine V_aload0 eX0_canLet_30 (zrf_rf _) ?_
    refine V_aload4 eX0_canLet_31 (zrf_rf _) ?_
    refine D_callI (pc' := 36) (st := [.int (0 : Int32), va_rf n4, va_rf n4, va_rf v3]) H (fun v h' c1 s1 e cb sb k => ?_) (fun v5 h c s H => ?_)
    · obtain ⟨a, hr, ha, hk, e9⟩ := zv1_ok e
      cases hr
      exact V_invokevirtual (k := 0) eX0_canLet_33 lmX0_yardsOf q945 q947 rfl rfl qs26 ha hk (c_X0_yardsOf e9) (hRet_oI _ _) rfl rfl rfl (by simp only [List.map_cons, List.map_nil, zcr]; rfl) (kOI k)
    refine V_bipush (v := 10) (by decide) eX0_canLet_36 ?_
    refine V_idiv (by decide) eX0_canLet_38 ?_
    refine D_iastore eX0_canLet_39 H (fun h H => ?_)
    refine V_dup (zcr _) eX0_canLet_40 ?_
    refine V_iconst (v := 1) (by decide) eX0_canLet_41 ?_
    refine V_aload4 eX0_canLet_42 (zrf_rf _) ?_
    refine D_gR eX0_canLet_44 fq_X0_221_tR H (fun v6 H => ?_)
    refine D_gI eX0_canLet_47 fq_X0_311_tI H (fun v7 H => ?_)
    refine V_aload4 eX0_canLet_50 (zrf_rf _) ?_
    refine D_gR eX0_canLet_52 fq_X0_206_tR H (fun v8 H => ?_)
    refine D_gI eX0_canLet_55 fq_X0_311_tI H (fun v9 H => ?_)
    refine V_iadd eX0_canLet_58 ?_
    refine D_iastore eX0_canLet_59 H (fun h H => ?_)
    refine V_dup (zcr _) eX0_canLet_60 ?_
    refine V_iconst (v := 2) (by decide) eX0_canLet_61 ?_
    refine V_aload0 eX0_canLet_62 (zrf_rf _) ?_
    refine V_aload4 eX0_canLet_63 (zrf_rf _) ?_
    refine V_iconst (v := 2) (by decide) eX0_canLet_65 ?_
    refine D_callI (pc' := 69) (st := [.int (2 : Int32), va_rf n4, va_rf n4, va_rf v3]) H (fun v h' c1 s1 e cb sb k => ?_) (fun v10 h c s H => ?_)
    · obtain ⟨a, hr, ha, hk, e9⟩ := zv1_ok e
      cases hr
      exact V_invokevirtual (k := 0) eX0_canLet_66 lmX0_cellsOf q1068 q1070 rfl rfl qs35 ha hk (c_X0_cellsOf e9) (hRet_oI _ _) rfl rfl rfl (by simp only [List.map_cons, List.map_nil, zcr]; rfl) (kOI k)
    refine D_iastore eX0_canLet_69 H (fun h H => ?_)
    refine V_dup (zcr _) eX0_canLet_70 ?_
    refine V_iconst (v := 3) (by decide) eX0_canLet_71 ?_
    refine V_aload0 eX0_canLet_72 (zrf_rf _) ?_
    refine V_aload4 eX0_canLet_73 (zrf_rf _) ?_
    refine V_iconst (v := 1) (by decide) eX0_canLet_75 ?_
    refine D_callI (pc' := 79) (st := [.int (3 : Int32), va_rf n4, va_rf n4, va_rf v3]) H (fun v h' c1 s1 e cb sb k => ?_) (fun v11 h c s H => ?_)
    · obtain ⟨a, hr, ha, hk, e9⟩ := zv1_ok e
      cases hr
      exact V_invokevirtual (k := 0) eX0_canLet_76 lmX0_cellsOf q1068 q1070 rfl rfl qs35 ha hk (c_X0_cellsOf e9) (hRet_oI _ _) rfl rfl rfl (by simp only [List.map_cons, List.map_nil, zcr]; rfl) (kOI k)
    refine D_iastore eX0_canLet_79 H (fun h H => ?_)
    refine V_dup (zcr _) eX0_canLet_80 ?_
    refine V_iconst (v := 4) (by decide) eX0_canLet_81 ?_
    refine V_aload0 eX0_canLet_82 (zrf_rf _) ?_
    refine V_aload4 eX0_canLet_83 (zrf_rf _) ?_
    refine D_callI (pc' := 88) (st := [.int (4 : Int32), va_rf n4, va_rf n4, va_rf v3]) H (fun v h' c1 s1 e cb sb k => ?_) (fun v12 h c s H => ?_)
    · obtain ⟨a, hr, ha, hk, e9⟩ := zv1_ok e
      cases hr
      exact V_invokevirtual (k := 0) eX0_canLet_85 lmX0_claimsOn q1072 q1074 rfl rfl qs36 ha hk (c_X0_claimsOn e9) (hRet_oI _ _) rfl rfl rfl (by simp only [List.map_cons, List.map_nil, zcr]; rfl) (kOI k)
    refine D_iastore eX0_canLet_88 H (fun h H => ?_)
    refine V_dup (zcr _) eX0_canLet_89 ?_
    refine V_iconst (v := 5) (by decide) eX0_canLet_90 ?_
    refine V_aload4 eX0_canLet_91 (zrf_rf _) ?_
    refine D_gI eX0_canLet_93 fq_X0_320_tI H (fun v13 H => ?_)
    refine D_iastore eX0_canLet_96 H (fun h H => ?_)
    refine D_callI (pc' := 100) (st := []) H (fun v h' c1 s1 e cb sb k => ?_) (fun v14 h c s H => ?_)
    · obtain ⟨a, hr, ha, e9⟩ := cz_X7_holds 100 _ _ _ _ _ _ _ e
      cases hr
      rcases e9 with ⟨hk, e9⟩ | ⟨hk, e9⟩ | ⟨hk, e9⟩ | ⟨hk, e9⟩
      · exact V_invokevirtualU (k := 8) eX0_canLet_97 lmX8_holds (⟨"LinesPromised$Test", q1076, q1078, q1094, q1089, q117, ⟨by decide, by decide⟩, rfl, Or.inr (Or.inr q1077)⟩) (by decide) ha hk e9 (hRet_oI _ _) rfl rfl rfl rfl (kOI k)
      · exact V_invokevirtualU (k := 9) eX0_canLet_97 lmX9_holds (⟨"LinesPromised$Test", q1076, q1078, q1093, q1087, q118, ⟨by decide, by decide⟩, rfl, Or.inr (Or.inr q1077)⟩) (by decide) ha hk e9 (hRet_oI _ _) rfl rfl rfl rfl (kOI k)
      · exact V_invokevirtualU (k := 10) eX0_canLet_97 lmX10_holds (⟨"LinesPromised$Test", q1076, q1078, q1079, q1080, q119, ⟨by decide, by decide⟩, rfl, Or.inr (Or.inr q1077)⟩) (by decide) ha hk e9 (hRet_oI _ _) rfl rfl rfl rfl (kOI k)
      · exact V_invokevirtualU (k := 11) eX0_canLet_97 lmX11_holds (⟨"LinesPromised$Test", q1076, q1078, q1092, q1083, q120, ⟨by decide, by decide⟩, rfl, Or.inr (Or.inr q1077)⟩) (by decide) ha hk e9 (hRet_oI _ _) rfl rfl rfl rfl (kOI k)
    obtain ⟨q, H⟩ := zgd_ok H
    obtain ⟨rfl, rfl, rfl, rfl⟩ := zrt_ok H
    exact V_zreturn eX0_canLet_100 rfl q ⟨rfl, rfl⟩
  · have H := zif_t q H
    refine V_iconst (v := 1) (by decide) eX0_canLet_12 ?_
    obtain ⟨q, H⟩ := zgd_ok H
    obtain ⟨rfl, rfl, rfl, rfl⟩ := zrt_ok H
    exact V_zreturn eX0_canLet_13 rfl q ⟨rfl, rfl⟩
