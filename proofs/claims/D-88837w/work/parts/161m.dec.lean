set_option maxRecDepth 100000
theorem fn_X24_putBack_15 : FN mX24_putBack 15 f_X0_height := by
  intro k j e
  unfold f_X0_height at e
  split at e
  · cases e; exact Or.inl rfl
  · cases e
theorem fn_X24_putBack_27 : FN mX24_putBack 27 f_X0_kind := by
  intro k j e
  unfold f_X0_kind at e
  split at e
  · cases e; exact Or.inl rfl
  · cases e
theorem fn_X24_putBack_33 : FN mX24_putBack 33 f_X0_survey := by
  intro k j e
  unfold f_X0_survey at e
  split at e
  · cases e; exact Or.inl rfl
  · cases e
theorem fn_X24_putBack_39 : FN mX24_putBack 39 f_X0_press := by
  intro k j e
  unfold f_X0_press at e
  split at e
  · cases e; exact Or.inl rfl
  · cases e
theorem fn_X24_putBack_45 : FN mX24_putBack 45 f_X0_coins := by
  intro k j e
  unfold f_X0_coins at e
  split at e
  · cases e; exact Or.inl rfl
  · cases e
theorem fn_X24_putBack_54 : FN mX24_putBack 54 f_X0_tape := by
  intro k j e
  unfold f_X0_tape at e
  split at e
  · cases e; exact Or.inl rfl
  · cases e
theorem fq_X24_67_tI : FQ RX24 67 f_X24_todayWas tI := by
  intro k j e
  unfold f_X24_todayWas at e
  split at e
  · cases e; exact ⟨fl_X24_67_24, Or.inl rfl⟩
  · cases e
theorem fq_X24_63_tN : FQ RX24 63 f_X0_today tN := by
  intro k j e
  unfold f_X0_today at e
  split at e
  · cases e; exact ⟨fl_X24_63_0, rfl⟩
  · cases e
theorem fn_X24_putBack_63 : FN mX24_putBack 63 f_X0_today := by
  intro k j e
  unfold f_X0_today at e
  split at e
  · cases e; exact Or.inl rfl
  · cases e
theorem fq_X24_73_tI : FQ RX24 73 f_X24_menWere tI := by
  intro k j e
  unfold f_X24_menWere at e
  split at e
  · cases e; exact ⟨fl_X24_73_24, Or.inl rfl⟩
  · cases e
theorem fq_X24_70_tN : FQ RX24 70 f_X0_men tN := by
  intro k j e
  unfold f_X0_men at e
  split at e
  · cases e; exact ⟨fl_X24_70_0, rfl⟩
  · cases e
theorem fn_X24_putBack_70 : FN mX24_putBack 70 f_X0_men := by
  intro k j e
  unfold f_X0_men at e
  split at e
  · cases e; exact Or.inl rfl
  · cases e
theorem fq_X24_79_tI : FQ RX24 79 f_X24_tapedWas tI := by
  intro k j e
  unfold f_X24_tapedWas at e
  split at e
  · cases e; exact ⟨fl_X24_79_24, Or.inl rfl⟩
  · cases e
theorem fq_X24_76_tN : FQ RX24 76 f_X0_taped tN := by
  intro k j e
  unfold f_X0_taped at e
  split at e
  · cases e; exact ⟨fl_X24_76_0, rfl⟩
  · cases e
theorem fn_X24_putBack_76 : FN mX24_putBack 76 f_X0_taped := by
  intro k j e
  unfold f_X0_taped at e
  split at e
  · cases e; exact Or.inl rfl
  · cases e
theorem fq_X24_85_tI : FQ RX24 85 f_X24_jobsWere tI := by
  intro k j e
  unfold f_X24_jobsWere at e
  split at e
  · cases e; exact ⟨fl_X24_85_24, Or.inl rfl⟩
  · cases e
theorem fq_X24_82_tN : FQ RX24 82 f_X0_jobs tN := by
  intro k j e
  unfold f_X0_jobs at e
  split at e
  · cases e; exact ⟨fl_X24_82_0, rfl⟩
  · cases e
theorem fn_X24_putBack_82 : FN mX24_putBack 82 f_X0_jobs := by
  intro k j e
  unfold f_X0_jobs at e
  split at e
  · cases e; exact Or.inl rfl
  · cases e
theorem fq_X24_91_tI : FQ RX24 91 f_X24_schemesWere tI := by
  intro k j e
  unfold f_X24_schemesWere at e
  split at e
  · cases e; exact ⟨fl_X24_91_24, Or.inl rfl⟩
  · cases e
theorem fq_X24_88_tN : FQ RX24 88 f_X0_schemes tN := by
  intro k j e
  unfold f_X0_schemes at e
  split at e
  · cases e; exact ⟨fl_X24_88_0, rfl⟩
  · cases e
theorem fn_X24_putBack_88 : FN mX24_putBack 88 f_X0_schemes := by
  intro k j e
  unfold f_X0_schemes at e
  split at e
  · cases e; exact Or.inl rfl
  · cases e
theorem fq_X24_104_tI : FQ RX24 104 f_X24_townsWere tI := by
  intro k j e
  unfold f_X24_townsWere at e
  split at e
  · cases e; exact ⟨fl_X24_104_24, Or.inl rfl⟩
  · cases e
theorem fq_X24_110_tI : FQ RX24 110 f_X24_ordersWere tI := by
  intro k j e
  unfold f_X24_ordersWere at e
  split at e
  · cases e; exact ⟨fl_X24_110_24, Or.inl rfl⟩
  · cases e
theorem fq_X24_116_tI : FQ RX24 116 f_X24_votesWere tI := by
  intro k j e
  unfold f_X24_votesWere at e
  split at e
  · cases e; exact ⟨fl_X24_116_24, Or.inl rfl⟩
  · cases e
theorem fq_X24_122_tI : FQ RX24 122 f_X24_papersWere tI := by
  intro k j e
  unfold f_X24_papersWere at e
  split at e
  · cases e; exact ⟨fl_X24_122_24, Or.inl rfl⟩
  · cases e
theorem fq_X24_161_tN : FQ RX24 161 f_X20_left tN := by
  intro k j e
  unfold f_X20_left at e
  split at e
  · cases e; exact ⟨fl_X24_161_20, rfl⟩
  · cases e
theorem fn_X24_putBack_161 : FN mX24_putBack 161 f_X20_left := by
  intro k j e
  unfold f_X20_left at e
  split at e
  · cases e; exact Or.inl rfl
  · cases e
def d_X24_putBack_344 (w : Wd) (F : Nat) (k309 : Int32 → M Unit) (x : Nat) (a1 : Int32) (s0 : Option Nat) (s1 : Int32) (s2 : Option Nat) : M Unit :=
  zbd (zsR 7 s0 s1 s2) fun _ =>
  k309 (a1 + (1 : Int32))
def B_X24_putBack_309 (w : Wd) (F : Nat) (k309 : Int32 → M Unit) (x : Nat) (a1 : Int32) : M Unit :=
  zif ((4 : Int32) ≤ a1) (zrt ())
  (zbd (zgR f_X24_this_0 (some x)) fun v51 =>
  zbd (zgR f_X0_sheets v51) fun v52 =>
  zbd (zgR f_X24_sheetsWere (some x)) fun v53 =>
  zbd (zaR v53 a1) fun v54 =>
  zif (v54 = none) (d_X24_putBack_344 w F k309 x a1 v52 a1 none)
  (zbd (zgR f_X24_sheetsWere (some x)) fun v55 =>
  zbd (zaR v55 a1) fun v56 =>
  zbd (zvn (t_X25_same w F) v56) fun v57 =>
  d_X24_putBack_344 w F k309 x a1 v52 a1 v57))
def d_X24_putBack_309 (w : Wd) (F : Nat) (x : Nat) : Nat → Int32 → M Unit
  | 0, _ => zno
  | n + 1, a1 => B_X24_putBack_309 w F (d_X24_putBack_309 w F x n) x a1
def B_X24_putBack_250 (w : Wd) (F : Nat) (k250 : Int32 → M Unit) (x : Nat) (a1 : Int32) : M Unit :=
  zbd (zgR f_X24_leftWas (some x)) fun v49 =>
  zbd (zal v49) fun v50 =>
  zif (v50 ≤ a1) (d_X24_putBack_309 w F x F (0 : Int32))
  (zbd (zgR f_X24_standingWas (some x)) fun v51 =>
  zbd (zv1 30 v51 (fun a => o_J2_get w F a a1)) fun v52 =>
  zbd (zcc y_X20 v52) fun _ =>
  zbd (zgR f_X24_leftWas (some x)) fun v53 =>
  zbd (zaI 0 v53 a1) fun v54 =>
  zbd (zpI f_X20_left v52 v54) fun _ =>
  zbd (zgR f_X24_this_0 (some x)) fun v55 =>
  zbd (zgR f_X0_standing v55) fun v56 =>
  zbd (zgR f_X24_standingWas (some x)) fun v57 =>
  zbd (zv1 30 v57 (fun a => o_J2_get w F a a1)) fun v58 =>
  zbd (zcc y_X20 v58) fun _ =>
  zbd (zv1 30 v56 (fun a => o_J2_add w F a v58)) fun v59 =>
  k250 (a1 + (1 : Int32)))
def d_X24_putBack_250 (w : Wd) (F : Nat) (x : Nat) : Nat → Int32 → M Unit
  | 0, _ => zno
  | n + 1, a1 => B_X24_putBack_250 w F (d_X24_putBack_250 w F x n) x a1
def B_X24_putBack_219 (w : Wd) (F : Nat) (k219 : Int32 → M Unit) (x : Nat) (a1 : Int32) : M Unit :=
  zbd (zgI f_X24_papersWere (some x)) fun v45 =>
  zif (v45 ≤ a1) (zbd (zgR f_X24_this_0 (some x)) fun v46 =>
  zbd (zgR f_X0_standing v46) fun v47 =>
  zbd (zv1 30 v47 (fun a => o_J2_clear w F a)) fun _ =>
  d_X24_putBack_250 w F x F (0 : Int32))
  (zbd (zv1 24 (some x) (fun a => o_X24_paperBack w F a a1)) fun _ =>
  k219 (a1 + (1 : Int32)))
def d_X24_putBack_219 (w : Wd) (F : Nat) (x : Nat) : Nat → Int32 → M Unit
  | 0, _ => zno
  | n + 1, a1 => B_X24_putBack_219 w F (d_X24_putBack_219 w F x n) x a1
def o_X24_putBack (w : Wd) (F : Nat) (x : Nat) : M Unit :=
  zbd (zgR f_X24_this_0 (some x)) fun v1 =>
  zbd (zgR f_X24_heightWas (some x)) fun v2 =>
  zbd (zcln 0 1 v2) fun n3 =>
  zbd (zcA 0 n3) fun _ =>
  zbd (zpR f_X0_height v1 n3) fun _ =>
  zbd (zgR f_X24_this_0 (some x)) fun v4 =>
  zbd (zgR f_X24_kindWas (some x)) fun v5 =>
  zbd (zcln 0 2 v5) fun n6 =>
  zbd (zcA 0 n6) fun _ =>
  zbd (zpR f_X0_kind v4 n6) fun _ =>
  zbd (zgR f_X24_this_0 (some x)) fun v7 =>
  zbd (zgR f_X24_surveyWas (some x)) fun v8 =>
  zbd (zcln 0 7 v8) fun n9 =>
  zbd (zcA 0 n9) fun _ =>
  zbd (zpR f_X0_survey v7 n9) fun _ =>
  zbd (zgR f_X24_this_0 (some x)) fun v10 =>
  zbd (zgR f_X24_pressWas (some x)) fun v11 =>
  zbd (zcln 0 8 v11) fun n12 =>
  zbd (zcA 0 n12) fun _ =>
  zbd (zpR f_X0_press v10 n12) fun _ =>
  zbd (zgR f_X24_this_0 (some x)) fun v13 =>
  zbd (zgR f_X24_coinsWere (some x)) fun v14 =>
  zbd (zcln 1 3 v14) fun n15 =>
  zbd (zcA 1 n15) fun _ =>
  zbd (zpR f_X0_coins v13 n15) fun _ =>
  zbd (zgR f_X24_this_0 (some x)) fun v16 =>
  zbd (zgR f_X24_tapeWas (some x)) fun v17 =>
  zbd (zcln 2 4 v17) fun n18 =>
  zbd (zcA 2 n18) fun _ =>
  zbd (zpR f_X0_tape v16 n18) fun _ =>
  zbd (zgR f_X24_this_0 (some x)) fun v19 =>
  zbd (zgI f_X24_todayWas (some x)) fun v20 =>
  zbd (zpI f_X0_today v19 v20) fun _ =>
  zbd (zgR f_X24_this_0 (some x)) fun v21 =>
  zbd (zgI f_X24_menWere (some x)) fun v22 =>
  zbd (zpI f_X0_men v21 v22) fun _ =>
  zbd (zgR f_X24_this_0 (some x)) fun v23 =>
  zbd (zgI f_X24_tapedWas (some x)) fun v24 =>
  zbd (zpI f_X0_taped v23 v24) fun _ =>
  zbd (zgR f_X24_this_0 (some x)) fun v25 =>
  zbd (zgI f_X24_jobsWere (some x)) fun v26 =>
  zbd (zpI f_X0_jobs v25 v26) fun _ =>
  zbd (zgR f_X24_this_0 (some x)) fun v27 =>
  zbd (zgI f_X24_schemesWere (some x)) fun v28 =>
  zbd (zpI f_X0_schemes v27 v28) fun _ =>
  zbd (zgR f_X24_this_0 (some x)) fun v29 =>
  zbd (zgR f_X0_towns v29) fun v30 =>
  zbd (zgI f_X24_townsWere (some x)) fun v31 =>
  zbd (zv1 24 (some x) (fun a => o_X24_cut w F a v30 v31)) fun _ =>
  zbd (zgR f_X24_this_0 (some x)) fun v33 =>
  zbd (zgR f_X0_orders v33) fun v34 =>
  zbd (zgI f_X24_ordersWere (some x)) fun v35 =>
  zbd (zv1 24 (some x) (fun a => o_X24_cut w F a v34 v35)) fun _ =>
  zbd (zgR f_X24_this_0 (some x)) fun v37 =>
  zbd (zgR f_X0_votes v37) fun v38 =>
  zbd (zgI f_X24_votesWere (some x)) fun v39 =>
  zbd (zv1 24 (some x) (fun a => o_X24_cut w F a v38 v39)) fun _ =>
  zbd (zgR f_X24_this_0 (some x)) fun v41 =>
  zbd (zgR f_X0_papers v41) fun v42 =>
  zbd (zgI f_X24_papersWere (some x)) fun v43 =>
  zbd (zv1 24 (some x) (fun a => o_X24_cut w F a v42 v43)) fun _ =>
  d_X24_putBack_219 w F x F (0 : Int32)
theorem b_X24_putBack_344 {w : Wd} {F : Nat} {k309 : Int32 → M Unit} {x : Nat} (hk309 : ∀ (a1 : Int32) (h : Hp) (y : Unit) (h1 : Hp) (c s : Nat), k309 a1 h = some (y, h1, c, s) → V w mX24_putBack cX24_putBack 7 c s h 309 [some (va_rf (some x)), some (.int a1)] [] (Ro (oU y) h1)) {a1 : Int32} {s0 : Option Nat} {s1 : Int32} {s2 : Option Nat} {h h1 : Hp} {y : Unit} {c s : Nat} (H : d_X24_putBack_344 w F k309 x a1 s0 s1 s2 h = some (y, h1, c, s)) : V w mX24_putBack cX24_putBack 7 c s h 344 [some (va_rf (some x)), some (.int a1)] [va_rf s2, .int s1, va_rf s0] (Ro (oU y) h1) := by
  unfold d_X24_putBack_344 at H
  refine D_aastore eX24_putBack_344 H (fun h H => ?_)
  refine V_iinc1 (znl_rf _) eX24_putBack_345 rfl (v := 1) (by decide) ?_
  refine V_goto eX24_putBack_348 ?_
  exact V_fg2 (hk309 _ _ _ _ _ _ H) (zfg_k (zfg_k zfg_e))
theorem bB_X24_putBack_309 {w : Wd} {F : Nat} {k309 : Int32 → M Unit} {x : Nat} (hk309 : ∀ (a1 : Int32) (h : Hp) (y : Unit) (h1 : Hp) (c s : Nat), k309 a1 h = some (y, h1, c, s) → V w mX24_putBack cX24_putBack 7 c s h 309 [some (va_rf (some x)), some (.int a1)] [] (Ro (oU y) h1)) {a1 : Int32} {h h1 : Hp} {y : Unit} {c s : Nat} (H : B_X24_putBack_309 w F k309 x a1 h = some (y, h1, c, s)) : V w mX24_putBack cX24_putBack 7 c s h 309 [some (va_rf (some x)), some (.int a1)] [] (Ro (oU y) h1) := by
  unfold B_X24_putBack_309 at H
  refine V_iload1 eX24_putBack_309 ?_
  refine V_iconst (v := 4) (by decide) eX24_putBack_310 ?_
  refine V_if_icmpge eX24_putBack_311 (fun q => ?_) (fun q => ?_)
  · have H := zif_t q H
    obtain ⟨rfl, rfl, rfl, rfl⟩ := zrt_ok H
    exact V_return (x := ()) eX24_putBack_351 rfl ⟨rfl, rfl⟩
  · have H := zif_f q H
    refine V_aload0 eX24_putBack_314 (zrf_rf _) ?_
    refine D_gR eX24_putBack_315 fq_X24_3_tR H (fun v51 H => ?_)
    refine D_gR eX24_putBack_318 fq_X24_201_tR H (fun v52 H => ?_)
    refine V_iload1 eX24_putBack_321 ?_
    refine V_aload0 eX24_putBack_322 (zrf_rf _) ?_
    refine D_gR eX24_putBack_323 fq_X24_147_tR H (fun v53 H => ?_)
    refine V_iload1 eX24_putBack_326 ?_
    refine D_aaload eX24_putBack_327 H (fun v54 H => ?_)
    refine V_ifnonnull eX24_putBack_328 (fun a q => ?_) (fun q => ?_)
    · have H := zif_f (zsn q) H
      refine V_aload0 eX24_putBack_335 (zrf_rf _) ?_
      refine D_gR eX24_putBack_336 fq_X24_147_tR H (fun v55 H => ?_)
      refine V_iload1 eX24_putBack_339 ?_
      refine D_aaload eX24_putBack_340 H (fun v56 H => ?_)
      refine D_callR (pc' := 344) (st := [.int a1, va_rf v52]) H (fun v h' c1 s1 e cb sb k => ?_) (fun v57 h c s H => ?_)
      · obtain ⟨a, f, hr, ha, ht, e9⟩ := zvn_ok e
        cases hr
        rcases t_X25_same_ok ht with ⟨hk, hf⟩ | ⟨hk, hf⟩ | ⟨hk, hf⟩
        · subst hf; exact V_invokevirtualU (k := 26) eX24_putBack_341 lmX26_same (⟨"LinesPromised$Sheet", q1679, q1681, q1682, q1683, q139, ⟨by decide, by decide⟩, rfl, Or.inr (Or.inr q1680)⟩) (by decide) ha hk (c_X26_same e9) (hRet_oR _ _) rfl rfl rfl (by simp only [List.map_cons, List.map_nil, zcr]; rfl) (kOR k)
        · subst hf; exact V_invokevirtualU (k := 27) eX24_putBack_341 lmX27_same (⟨"LinesPromised$Sheet", q1679, q1681, q1701, q1702, q140, ⟨by decide, by decide⟩, rfl, Or.inr (Or.inr q1680)⟩) (by decide) ha hk (c_X27_same e9) (hRet_oR _ _) rfl rfl rfl (by simp only [List.map_cons, List.map_nil, zcr]; rfl) (kOR k)
        · subst hf; exact V_invokevirtualU (k := 28) eX24_putBack_341 lmX28_same (⟨"LinesPromised$Sheet", q1679, q1681, q1716, q1717, q141, ⟨by decide, by decide⟩, rfl, Or.inr (Or.inr q1680)⟩) (by decide) ha hk (c_X28_same e9) (hRet_oR _ _) rfl rfl rfl (by simp only [List.map_cons, List.map_nil, zcr]; rfl) (kOR k)
      exact V_fg2 (b_X24_putBack_344 hk309 H) (zfg_k (zfg_k zfg_e))
    · have H := zif_t q H
      refine D_null eX24_putBack_331 ?_
      refine V_goto eX24_putBack_332 ?_
      exact V_fg2 (b_X24_putBack_344 hk309 H) (zfg_k (zfg_k zfg_e))
theorem b_X24_putBack_309 {w : Wd} {F : Nat} {x : Nat} : ∀ (n : Nat) (a1 : Int32) (h : Hp) (y : Unit) (h1 : Hp) (c s : Nat), d_X24_putBack_309 w F x n a1 h = some (y, h1, c, s) → V w mX24_putBack cX24_putBack 7 c s h 309 [some (va_rf (some x)), some (.int a1)] [] (Ro (oU y) h1) := by
  intro n
  induction n with
  | zero => intro a1 h y h1 c s H; exact zno_no H
  | succ n ih => intro a1 h y h1 c s H; exact bB_X24_putBack_309 ih H
theorem bB_X24_putBack_250 {w : Wd} {F : Nat} {k250 : Int32 → M Unit} {x : Nat} (hk250 : ∀ (a1 : Int32) (h : Hp) (y : Unit) (h1 : Hp) (c s : Nat), k250 a1 h = some (y, h1, c, s) → V w mX24_putBack cX24_putBack 7 c s h 250 [some (va_rf (some x)), some (.int a1)] [] (Ro (oU y) h1)) {a1 : Int32} {h h1 : Hp} {y : Unit} {c s : Nat} (H : B_X24_putBack_250 w F k250 x a1 h = some (y, h1, c, s)) : V w mX24_putBack cX24_putBack 7 c s h 250 [some (va_rf (some x)), some (.int a1)] [] (Ro (oU y) h1) := by
  unfold B_X24_putBack_250 at H
  refine V_iload1 eX24_putBack_250 ?_
  refine V_aload0 eX24_putBack_251 (zrf_rf _) ?_
  refine D_gR eX24_putBack_252 fq_X24_134_tR H (fun v49 H => ?_)
  refine D_arraylength eX24_putBack_255 H (fun v50 H => ?_)
  refine V_if_icmpge eX24_putBack_256 (fun q => ?_) (fun q => ?_)
  · have H := zif_t q H
    refine V_iconst (v := 0) (by decide) eX24_putBack_307 ?_
    refine V_istore1 (znl_rf _) eX24_putBack_308 rfl ?_
    exact V_fg2 (b_X24_putBack_309 _ _ _ _ _ _ _ H) (zfg_k (zfg_k zfg_e))
  · have H := zif_f q H
    refine V_aload0 eX24_putBack_259 (zrf_rf _) ?_
    refine D_gR eX24_putBack_260 fq_X24_131_tR H (fun v51 H => ?_)
    refine V_iload1 eX24_putBack_263 ?_
    refine D_callR (pc' := 267) (st := []) H (fun v h' c1 s1 e cb sb k => ?_) (fun v52 h c s H => ?_)
    · obtain ⟨a, hr, ha, hk, e9⟩ := zv1_ok e
      cases hr
      exact V_invokevirtual (k := 30) eX24_putBack_264 lmJ2_get q1673 q161 rfl rfl q162 ha hk (c_J2_get e9) (hRet_oR _ _) rfl rfl rfl rfl (kOR k)
    refine D_cast eX24_putBack_267 q1674 y_X20_ok H (fun H => ?_)
    refine V_aload0 eX24_putBack_270 (zrf_rf _) ?_
    refine D_gR eX24_putBack_271 fq_X24_134_tR H (fun v53 H => ?_)
    refine V_iload1 eX24_putBack_274 ?_
    refine D_iaload eX24_putBack_275 H (fun v54 H => ?_)
    refine D_pI eX24_putBack_276 fq_X24_161_tN fn_X24_putBack_161 H (fun h H => ?_)
    refine V_aload0 eX24_putBack_279 (zrf_rf _) ?_
    refine D_gR eX24_putBack_280 fq_X24_3_tR H (fun v55 H => ?_)
    refine D_gR eX24_putBack_283 fq_X24_125_tR H (fun v56 H => ?_)
    refine V_aload0 eX24_putBack_286 (zrf_rf _) ?_
    refine D_gR eX24_putBack_287 fq_X24_131_tR H (fun v57 H => ?_)
    refine V_iload1 eX24_putBack_290 ?_
    refine D_callR (pc' := 294) (st := [va_rf v56]) H (fun v h' c1 s1 e cb sb k => ?_) (fun v58 h c s H => ?_)
    · obtain ⟨a, hr, ha, hk, e9⟩ := zv1_ok e
      cases hr
      exact V_invokevirtual (k := 30) eX24_putBack_291 lmJ2_get q1673 q161 rfl rfl q162 ha hk (c_J2_get e9) (hRet_oR _ _) rfl rfl rfl (by simp only [List.map_cons, List.map_nil, zcr]; rfl) (kOR k)
    refine D_cast eX24_putBack_294 q1674 y_X20_ok H (fun H => ?_)
    refine D_callI (pc' := 300) (st := []) H (fun v h' c1 s1 e cb sb k => ?_) (fun v59 h c s H => ?_)
    · obtain ⟨a, hr, ha, hk, e9⟩ := zv1_ok e
      cases hr
      exact V_invokevirtual (k := 30) eX24_putBack_297 lmJ2_add q1825 q197 rfl rfl q198 ha hk (c_J2_add e9) (hRet_oI _ _) rfl rfl rfl rfl (kOI k)
    refine V_pop rfl eX24_putBack_300 ?_
    refine V_iinc1 (znl_rf _) eX24_putBack_301 rfl (v := 1) (by decide) ?_
    refine V_goto eX24_putBack_304 ?_
    exact V_fg2 (hk250 _ _ _ _ _ _ H) (zfg_k (zfg_k zfg_e))
theorem b_X24_putBack_250 {w : Wd} {F : Nat} {x : Nat} : ∀ (n : Nat) (a1 : Int32) (h : Hp) (y : Unit) (h1 : Hp) (c s : Nat), d_X24_putBack_250 w F x n a1 h = some (y, h1, c, s) → V w mX24_putBack cX24_putBack 7 c s h 250 [some (va_rf (some x)), some (.int a1)] [] (Ro (oU y) h1) := by
  intro n
  induction n with
  | zero => intro a1 h y h1 c s H; exact zno_no H
  | succ n ih => intro a1 h y h1 c s H; exact bB_X24_putBack_250 ih H
theorem bB_X24_putBack_219 {w : Wd} {F : Nat} {k219 : Int32 → M Unit} {x : Nat} (hk219 : ∀ (a1 : Int32) (h : Hp) (y : Unit) (h1 : Hp) (c s : Nat), k219 a1 h = some (y, h1, c, s) → V w mX24_putBack cX24_putBack 7 c s h 219 [some (va_rf (some x)), some (.int a1)] [] (Ro (oU y) h1)) {a1 : Int32} {h h1 : Hp} {y : Unit} {c s : Nat} (H : B_X24_putBack_219 w F k219 x a1 h = some (y, h1, c, s)) : V w mX24_putBack cX24_putBack 7 c s h 219 [some (va_rf (some x)), some (.int a1)] [] (Ro (oU y) h1) := by
  unfold B_X24_putBack_219 at H
  refine V_iload1 eX24_putBack_219 ?_
  refine V_aload0 eX24_putBack_220 (zrf_rf _) ?_
  refine D_gI eX24_putBack_221 fq_X24_122_tI H (fun v45 H => ?_)
  refine V_if_icmpge eX24_putBack_224 (fun q => ?_) (fun q => ?_)
  · have H := zif_t q H
    refine V_aload0 eX24_putBack_238 (zrf_rf _) ?_
    refine D_gR eX24_putBack_239 fq_X24_3_tR H (fun v46 H => ?_)
    refine D_gR eX24_putBack_242 fq_X24_125_tR H (fun v47 H => ?_)
    refine D_callU (pc' := 248) (st := []) H (fun v h' c1 s1 e cb sb k => ?_) (fun v48 h c s H => ?_)
    · obtain ⟨a, hr, ha, hk, e9⟩ := zv1_ok e
      cases hr
      exact V_invokevirtual (k := 30) eX24_putBack_245 lmJ2_clear q1821 q1822 rfl rfl q1823 ha hk (c_J2_clear e9) (hRet_oU _ _) rfl rfl rfl rfl (kOU k)
    refine V_iconst (v := 0) (by decide) eX24_putBack_248 ?_
    refine V_istore1 (znl_rf _) eX24_putBack_249 rfl ?_
    exact V_fg2 (b_X24_putBack_250 _ _ _ _ _ _ _ H) (zfg_k (zfg_k zfg_e))
  · have H := zif_f q H
    refine V_aload0 eX24_putBack_227 (zrf_rf _) ?_
    refine V_iload1 eX24_putBack_228 ?_
    refine D_callU (pc' := 232) (st := []) H (fun v h' c1 s1 e cb sb k => ?_) (fun v49 h c s H => ?_)
    · obtain ⟨a, hr, ha, hk, e9⟩ := zv1_ok e
      cases hr
      exact V_invokevirtual (k := 24) eX24_putBack_229 lmX24_paperBack q1815 q1817 rfl rfl qs52 ha hk (c_X24_paperBack e9) (hRet_oU _ _) rfl rfl rfl rfl (kOU k)
    refine V_iinc1 (znl_rf _) eX24_putBack_232 rfl (v := 1) (by decide) ?_
    refine V_goto eX24_putBack_235 ?_
    exact V_fg2 (hk219 _ _ _ _ _ _ H) (zfg_k (zfg_k zfg_e))
theorem b_X24_putBack_219 {w : Wd} {F : Nat} {x : Nat} : ∀ (n : Nat) (a1 : Int32) (h : Hp) (y : Unit) (h1 : Hp) (c s : Nat), d_X24_putBack_219 w F x n a1 h = some (y, h1, c, s) → V w mX24_putBack cX24_putBack 7 c s h 219 [some (va_rf (some x)), some (.int a1)] [] (Ro (oU y) h1) := by
  intro n
  induction n with
  | zero => intro a1 h y h1 c s H; exact zno_no H
  | succ n ih => intro a1 h y h1 c s H; exact bB_X24_putBack_219 ih H
theorem c_X24_putBack {w : Wd} {F : Nat} {x : Nat} {h h1 : Hp} {y : Unit} {c s : Nat} (H : o_X24_putBack w F x h = some (y, h1, c, s)) : Con w mX24_putBack cX24_putBack 7 c s [.ref x] h (Ro (oU y) h1) := by
  unfold o_X24_putBack at H
  refine Con.of (ls := [some (va_rf (some x)), none]) (by decide +kernel) rfl rfl ?_
  refine V_aload0 eX24_putBack_0 (zrf_rf _) ?_
  refine D_gR eX24_putBack_1 fq_X24_3_tR H (fun v1 H => ?_)
  refine V_aload0 eX24_putBack_4 (zrf_rf _) ?_
  refine D_gR eX24_putBack_5 fq_X24_24_tR H (fun v2 H => ?_)
  refine D_clone (cT := 0) (g := 1) eX24_putBack_8 rfl (by decide +kernel) q1629 q1630 q1631 q1632 q1633 q1634 rfl (by simp only [List.map_cons, List.map_nil, zcr]; rfl) H (fun n3 h c s H => ?_)
  refine D_castA (cT := 0) eX24_putBack_11 q1635 (by decide +kernel) H (fun H => ?_)
  refine D_pR eX24_putBack_14 fq_X24_15_tR fn_X24_putBack_15 H (fun h H => ?_)
  refine V_aload0 eX24_putBack_17 (zrf_rf _) ?_
  refine D_gR eX24_putBack_18 fq_X24_3_tR H (fun v4 H => ?_)
  refine V_aload0 eX24_putBack_21 (zrf_rf _) ?_
  refine D_gR eX24_putBack_22 fq_X24_30_tR H (fun v5 H => ?_)
  refine D_clone (cT := 0) (g := 2) eX24_putBack_25 rfl (by decide +kernel) q1629 q1630 q1631 q1632 q1633 q1634 rfl (by simp only [List.map_cons, List.map_nil, zcr]; rfl) H (fun n6 h c s H => ?_)
  refine D_castA (cT := 0) eX24_putBack_28 q1635 (by decide +kernel) H (fun H => ?_)
  refine D_pR eX24_putBack_31 fq_X24_27_tR fn_X24_putBack_27 H (fun h H => ?_)
  refine V_aload0 eX24_putBack_34 (zrf_rf _) ?_
  refine D_gR eX24_putBack_35 fq_X24_3_tR H (fun v7 H => ?_)
  refine V_aload0 eX24_putBack_38 (zrf_rf _) ?_
  refine D_gR eX24_putBack_39 fq_X24_36_tR H (fun v8 H => ?_)
  refine D_clone (cT := 0) (g := 7) eX24_putBack_42 rfl (by decide +kernel) q1629 q1630 q1631 q1632 q1633 q1634 rfl (by simp only [List.map_cons, List.map_nil, zcr]; rfl) H (fun n9 h c s H => ?_)
  refine D_castA (cT := 0) eX24_putBack_45 q1635 (by decide +kernel) H (fun H => ?_)
  refine D_pR eX24_putBack_48 fq_X24_33_tR fn_X24_putBack_33 H (fun h H => ?_)
  refine V_aload0 eX24_putBack_51 (zrf_rf _) ?_
  refine D_gR eX24_putBack_52 fq_X24_3_tR H (fun v10 H => ?_)
  refine V_aload0 eX24_putBack_55 (zrf_rf _) ?_
  refine D_gR eX24_putBack_56 fq_X24_42_tR H (fun v11 H => ?_)
  refine D_clone (cT := 0) (g := 8) eX24_putBack_59 rfl (by decide +kernel) q1629 q1630 q1631 q1632 q1633 q1634 rfl (by simp only [List.map_cons, List.map_nil, zcr]; rfl) H (fun n12 h c s H => ?_)
  refine D_castA (cT := 0) eX24_putBack_62 q1635 (by decide +kernel) H (fun H => ?_)
  refine D_pR eX24_putBack_65 fq_X24_39_tR fn_X24_putBack_39 H (fun h H => ?_)
  refine V_aload0 eX24_putBack_68 (zrf_rf _) ?_
  refine D_gR eX24_putBack_69 fq_X24_3_tR H (fun v13 H => ?_)
  refine V_aload0 eX24_putBack_72 (zrf_rf _) ?_
  refine D_gR eX24_putBack_73 fq_X24_51_tR H (fun v14 H => ?_)
  refine D_clone (cT := 1) (g := 3) eX24_putBack_76 rfl (by decide +kernel) q1636 q1637 q1631 q1632 q1638 q1639 rfl (by simp only [List.map_cons, List.map_nil, zcr]; rfl) H (fun n15 h c s H => ?_)
  refine D_castA (cT := 1) eX24_putBack_79 q1640 (by decide +kernel) H (fun H => ?_)
  refine D_pR eX24_putBack_82 fq_X24_45_tR fn_X24_putBack_45 H (fun h H => ?_)
  refine V_aload0 eX24_putBack_85 (zrf_rf _) ?_
  refine D_gR eX24_putBack_86 fq_X24_3_tR H (fun v16 H => ?_)
  refine V_aload0 eX24_putBack_89 (zrf_rf _) ?_
  refine D_gR eX24_putBack_90 fq_X24_60_tR H (fun v17 H => ?_)
  refine D_clone (cT := 2) (g := 4) eX24_putBack_93 rfl (by decide +kernel) q1641 q1642 q1631 q1632 q1643 q1644 rfl (by simp only [List.map_cons, List.map_nil, zcr]; rfl) H (fun n18 h c s H => ?_)
  refine D_castA (cT := 2) eX24_putBack_96 q1645 (by decide +kernel) H (fun H => ?_)
  refine D_pR eX24_putBack_99 fq_X24_54_tR fn_X24_putBack_54 H (fun h H => ?_)
  refine V_aload0 eX24_putBack_102 (zrf_rf _) ?_
  refine D_gR eX24_putBack_103 fq_X24_3_tR H (fun v19 H => ?_)
  refine V_aload0 eX24_putBack_106 (zrf_rf _) ?_
  refine D_gI eX24_putBack_107 fq_X24_67_tI H (fun v20 H => ?_)
  refine D_pI eX24_putBack_110 fq_X24_63_tN fn_X24_putBack_63 H (fun h H => ?_)
  refine V_aload0 eX24_putBack_113 (zrf_rf _) ?_
  refine D_gR eX24_putBack_114 fq_X24_3_tR H (fun v21 H => ?_)
  refine V_aload0 eX24_putBack_117 (zrf_rf _) ?_
  refine D_gI eX24_putBack_118 fq_X24_73_tI H (fun v22 H => ?_)
  refine D_pI eX24_putBack_121 fq_X24_70_tN fn_X24_putBack_70 H (fun h H => ?_)
  refine V_aload0 eX24_putBack_124 (zrf_rf _) ?_
  refine D_gR eX24_putBack_125 fq_X24_3_tR H (fun v23 H => ?_)
  refine V_aload0 eX24_putBack_128 (zrf_rf _) ?_
  refine D_gI eX24_putBack_129 fq_X24_79_tI H (fun v24 H => ?_)
  refine D_pI eX24_putBack_132 fq_X24_76_tN fn_X24_putBack_76 H (fun h H => ?_)
  refine V_aload0 eX24_putBack_135 (zrf_rf _) ?_
  refine D_gR eX24_putBack_136 fq_X24_3_tR H (fun v25 H => ?_)
  refine V_aload0 eX24_putBack_139 (zrf_rf _) ?_
  refine D_gI eX24_putBack_140 fq_X24_85_tI H (fun v26 H => ?_)
  refine D_pI eX24_putBack_143 fq_X24_82_tN fn_X24_putBack_82 H (fun h H => ?_)
  refine V_aload0 eX24_putBack_146 (zrf_rf _) ?_
  refine D_gR eX24_putBack_147 fq_X24_3_tR H (fun v27 H => ?_)
  refine V_aload0 eX24_putBack_150 (zrf_rf _) ?_
  refine D_gI eX24_putBack_151 fq_X24_91_tI H (fun v28 H => ?_)
  refine D_pI eX24_putBack_154 fq_X24_88_tN fn_X24_putBack_88 H (fun h H => ?_)
  refine V_aload0 eX24_putBack_157 (zrf_rf _) ?_
  refine V_aload0 eX24_putBack_158 (zrf_rf _) ?_
  refine D_gR eX24_putBack_159 fq_X24_3_tR H (fun v29 H => ?_)
  refine D_gR eX24_putBack_162 fq_X24_94_tR H (fun v30 H => ?_)
  refine V_aload0 eX24_putBack_165 (zrf_rf _) ?_
  refine D_gI eX24_putBack_166 fq_X24_104_tI H (fun v31 H => ?_)
  refine D_callU (pc' := 172) (st := []) H (fun v h' c1 s1 e cb sb k => ?_) (fun v32 h c s H => ?_)
  · obtain ⟨a, hr, ha, hk, e9⟩ := zv1_ok e
    cases hr
    exact V_invokevirtual (k := 24) eX24_putBack_169 lmX24_cut q1810 q1812 rfl rfl qs51 ha hk (c_X24_cut e9) (hRet_oU _ _) rfl rfl rfl rfl (kOU k)
  refine V_aload0 eX24_putBack_172 (zrf_rf _) ?_
  refine V_aload0 eX24_putBack_173 (zrf_rf _) ?_
  refine D_gR eX24_putBack_174 fq_X24_3_tR H (fun v33 H => ?_)
  refine D_gR eX24_putBack_177 fq_X24_107_tR H (fun v34 H => ?_)
  refine V_aload0 eX24_putBack_180 (zrf_rf _) ?_
  refine D_gI eX24_putBack_181 fq_X24_110_tI H (fun v35 H => ?_)
  refine D_callU (pc' := 187) (st := []) H (fun v h' c1 s1 e cb sb k => ?_) (fun v36 h c s H => ?_)
  · obtain ⟨a, hr, ha, hk, e9⟩ := zv1_ok e
    cases hr
    exact V_invokevirtual (k := 24) eX24_putBack_184 lmX24_cut q1810 q1812 rfl rfl qs51 ha hk (c_X24_cut e9) (hRet_oU _ _) rfl rfl rfl rfl (kOU k)
  refine V_aload0 eX24_putBack_187 (zrf_rf _) ?_
  refine V_aload0 eX24_putBack_188 (zrf_rf _) ?_
  refine D_gR eX24_putBack_189 fq_X24_3_tR H (fun v37 H => ?_)
  refine D_gR eX24_putBack_192 fq_X24_113_tR H (fun v38 H => ?_)
  refine V_aload0 eX24_putBack_195 (zrf_rf _) ?_
  refine D_gI eX24_putBack_196 fq_X24_116_tI H (fun v39 H => ?_)
  refine D_callU (pc' := 202) (st := []) H (fun v h' c1 s1 e cb sb k => ?_) (fun v40 h c s H => ?_)
  · obtain ⟨a, hr, ha, hk, e9⟩ := zv1_ok e
    cases hr
    exact V_invokevirtual (k := 24) eX24_putBack_199 lmX24_cut q1810 q1812 rfl rfl qs51 ha hk (c_X24_cut e9) (hRet_oU _ _) rfl rfl rfl rfl (kOU k)
  refine V_aload0 eX24_putBack_202 (zrf_rf _) ?_
  refine V_aload0 eX24_putBack_203 (zrf_rf _) ?_
  refine D_gR eX24_putBack_204 fq_X24_3_tR H (fun v41 H => ?_)
  refine D_gR eX24_putBack_207 fq_X24_119_tR H (fun v42 H => ?_)
  refine V_aload0 eX24_putBack_210 (zrf_rf _) ?_
  refine D_gI eX24_putBack_211 fq_X24_122_tI H (fun v43 H => ?_)
  refine D_callU (pc' := 217) (st := []) H (fun v h' c1 s1 e cb sb k => ?_) (fun v44 h c s H => ?_)
  · obtain ⟨a, hr, ha, hk, e9⟩ := zv1_ok e
    cases hr
    exact V_invokevirtual (k := 24) eX24_putBack_214 lmX24_cut q1810 q1812 rfl rfl qs51 ha hk (c_X24_cut e9) (hRet_oU _ _) rfl rfl rfl rfl (kOU k)
  refine V_iconst (v := 0) (by decide) eX24_putBack_217 ?_
  refine V_istore1 (znl_rf _) eX24_putBack_218 rfl ?_
  exact V_fg2 (b_X24_putBack_219 _ _ _ _ _ _ _ H) (zfg_k (zfg_k zfg_e))
def o_X0_undo (w : Wd) (F : Nat) (x : Nat) : M Int32 :=
  zbd (zgR f_X0_image (some x)) fun v1 =>
  zif (v1 = none) (zrt (-3 : Int32))
  (zbd (zgR f_X0_image (some x)) fun v2 =>
  zbd (zv1 24 v2 (fun a => o_X24_putBack w F a)) fun _ =>
  zbd (zgI f_X0_today (some x)) fun v4 =>
  zrt v4)
theorem c_X0_undo {w : Wd} {F : Nat} {x : Nat} {h h1 : Hp} {y : Int32} {c s : Nat} (H : o_X0_undo w F x h = some (y, h1, c, s)) : Con w mX0_undo cX0_undo 8 c s [.ref x] h (Ro (oI y) h1) := by
  unfold o_X0_undo at H
  refine Con.of (ls := [some (va_rf (some x))]) (by decide +kernel) rfl rfl ?_
  refine V_aload0 eX0_undo_0 (zrf_rf _) ?_
  refine D_gR eX0_undo_1 fq_X0_545_tR H (fun v1 H => ?_)
  refine V_ifnonnull eX0_undo_4 (fun a q => ?_) (fun q => ?_)
  · have H := zif_f (zsn q) H
    refine V_aload0 eX0_undo_10 (zrf_rf _) ?_
    refine D_gR eX0_undo_11 fq_X0_545_tR H (fun v2 H => ?_)
    refine D_callU (pc' := 17) (st := []) H (fun v h' c1 s1 e cb sb k => ?_) (fun v3 h c s H => ?_)
    · obtain ⟨a, hr, ha, hk, e9⟩ := zv1_ok e
      cases hr
      exact V_invokevirtual (k := 24) eX0_undo_14 lmX24_putBack q1806 q1807 rfl rfl q1808 ha hk (c_X24_putBack e9) (hRet_oU _ _) rfl rfl rfl rfl (kOU k)
    refine V_aload0 eX0_undo_17 (zrf_rf _) ?_
    refine D_gI eX0_undo_18 fq_X0_194_tI H (fun v4 H => ?_)
    obtain ⟨rfl, rfl, rfl, rfl⟩ := zrt_ok H
    exact V_ireturn eX0_undo_21 rfl ⟨rfl, rfl⟩
  · have H := zif_t q H
    refine V_bipush (v := -3) (by decide) eX0_undo_7 ?_
    obtain ⟨rfl, rfl, rfl, rfl⟩ := zrt_ok H
    exact V_ireturn eX0_undo_9 rfl ⟨rfl, rfl⟩
def d_X0_doneMany_54 (w : Wd) (F : Nat) (k4 : Int32 → Int32 → M Int32) (x : Nat) (a3 : Int32) (s0 : Int32) (s1 : Int32) : M Int32 :=
  k4 (s0 + s1) (a3 + (1 : Int32))
def d_X0_doneMany_53 (w : Wd) (F : Nat) (k4 : Int32 → Int32 → M Int32) (x : Nat) (a3 : Int32) (s0 : Int32) : M Int32 :=
  d_X0_doneMany_54 w F k4 x a3 s0 (0 : Int32)
def B_X0_doneMany_4 (w : Wd) (F : Nat) (k4 : Int32 → Int32 → M Int32) (x : Nat) (a1 : Int32) (a3 : Int32) : M Int32 :=
  zbd (zgR f_X0_papers (some x)) fun v1 =>
  zbd (zv1 30 v1 (fun a => o_J2_size w F a)) fun v2 =>
  zif (v2 ≤ a3) (zrt a1)
  (zbd (zgR f_X0_papers (some x)) fun v3 =>
  zbd (zv1 30 v3 (fun a => o_J2_get w F a a3)) fun v4 =>
  zbd (zio y_X18 n_X18 v4) fun v5 =>
  zif (v5 = 0) (d_X0_doneMany_53 w F k4 x a3 a1)
  (zbd (zcc y_X18 v4) fun _ =>
  zbd (zgI f_X18_doneOn v4) fun v6 =>
  zif (v6 = (-5 : Int32)) (d_X0_doneMany_53 w F k4 x a3 a1)
  (d_X0_doneMany_54 w F k4 x a3 a1 (1 : Int32))))
def d_X0_doneMany_4 (w : Wd) (F : Nat) (x : Nat) : Nat → Int32 → Int32 → M Int32
  | 0, _, _ => zno
  | n + 1, a1, a3 => B_X0_doneMany_4 w F (d_X0_doneMany_4 w F x n) x a1 a3
def o_X0_doneMany (w : Wd) (F : Nat) (x : Nat) : M Int32 :=
  d_X0_doneMany_4 w F x F (0 : Int32) (0 : Int32)
theorem b_X0_doneMany_54 {w : Wd} {F : Nat} {k4 : Int32 → Int32 → M Int32} {x : Nat} (hk4 : ∀ (a1 : Int32) (a3 : Int32) (h : Hp) (y : Int32) (h1 : Hp) (c s : Nat), k4 a1 a3 h = some (y, h1, c, s) → V w mX0_doneMany cX0_doneMany 3 c s h 4 [some (va_rf (some x)), some (.int a1), none, some (.int a3), none] [] (Ro (oI y) h1)) {a3 : Int32} {s0 : Int32} {s1 : Int32} {h h1 : Hp} {y : Int32} {c s : Nat} (H : d_X0_doneMany_54 w F k4 x a3 s0 s1 h = some (y, h1, c, s)) : V w mX0_doneMany cX0_doneMany 3 c s h 54 [some (va_rf (some x)), none, none, some (.int a3), none] [.int s1, .int s0] (Ro (oI y) h1) := by
  unfold d_X0_doneMany_54 at H
  refine V_iadd eX0_doneMany_54 ?_
  refine V_istore1 (znl_rf _) eX0_doneMany_55 rfl ?_
  refine V_iinc3 rfl eX0_doneMany_56 rfl (v := 1) (by decide) ?_
  refine V_goto eX0_doneMany_59 ?_
  exact V_fg2 (hk4 _ _ _ _ _ _ _ H) (zfg_k (zfg_k (zfg_n (zfg_k (zfg_n zfg_e)))))
theorem b_X0_doneMany_53 {w : Wd} {F : Nat} {k4 : Int32 → Int32 → M Int32} {x : Nat} (hk4 : ∀ (a1 : Int32) (a3 : Int32) (h : Hp) (y : Int32) (h1 : Hp) (c s : Nat), k4 a1 a3 h = some (y, h1, c, s) → V w mX0_doneMany cX0_doneMany 3 c s h 4 [some (va_rf (some x)), some (.int a1), none, some (.int a3), none] [] (Ro (oI y) h1)) {a3 : Int32} {s0 : Int32} {h h1 : Hp} {y : Int32} {c s : Nat} (H : d_X0_doneMany_53 w F k4 x a3 s0 h = some (y, h1, c, s)) : V w mX0_doneMany cX0_doneMany 3 c s h 53 [some (va_rf (some x)), none, none, some (.int a3), none] [.int s0] (Ro (oI y) h1) := by
  unfold d_X0_doneMany_53 at H
  refine V_iconst (v := 0) (by decide) eX0_doneMany_53 ?_
  exact V_fg2 (b_X0_doneMany_54 hk4 H) (zfg_k (zfg_n (zfg_n (zfg_k (zfg_n zfg_e)))))
theorem bB_X0_doneMany_4 {w : Wd} {F : Nat} {k4 : Int32 → Int32 → M Int32} {x : Nat} (hk4 : ∀ (a1 : Int32) (a3 : Int32) (h : Hp) (y : Int32) (h1 : Hp) (c s : Nat), k4 a1 a3 h = some (y, h1, c, s) → V w mX0_doneMany cX0_doneMany 3 c s h 4 [some (va_rf (some x)), some (.int a1), none, some (.int a3), none] [] (Ro (oI y) h1)) {a1 : Int32} {a3 : Int32} {h h1 : Hp} {y : Int32} {c s : Nat} (H : B_X0_doneMany_4 w F k4 x a1 a3 h = some (y, h1, c, s)) : V w mX0_doneMany cX0_doneMany 3 c s h 4 [some (va_rf (some x)), some (.int a1), none, some (.int a3), none] [] (Ro (oI y) h1) := by
  unfold B_X0_doneMany_4 at H
  refine V_iload3 eX0_doneMany_4 ?_
  refine V_aload0 eX0_doneMany_5 (zrf_rf _) ?_
  refine D_gR eX0_doneMany_6 fq_X0_121_tR H (fun v1 H => ?_)
  refine D_callI (pc' := 12) (st := [.int a3]) H (fun v h' c1 s1 e cb sb k => ?_) (fun v2 h c s H => ?_)
  · obtain ⟨a, hr, ha, hk, e9⟩ := zv1_ok e
    cases hr
    exact V_invokevirtual (k := 30) eX0_doneMany_9 lmJ2_size q156 q157 rfl rfl q158 ha hk (c_J2_size e9) (hRet_oI _ _) rfl rfl rfl rfl (kOI k)
  refine V_if_icmpge eX0_doneMany_12 (fun q => ?_) (fun q => ?_)
  · have H := zif_t q H
    refine V_iload1 eX0_doneMany_62 ?_
    obtain ⟨rfl, rfl, rfl, rfl⟩ := zrt_ok H
    exact V_ireturn eX0_doneMany_63 rfl ⟨rfl, rfl⟩
  · have H := zif_f q H
    refine V_iload1 eX0_doneMany_15 ?_
    refine V_aload0 eX0_doneMany_16 (zrf_rf _) ?_
    refine D_gR eX0_doneMany_17 fq_X0_121_tR H (fun v3 H => ?_)
    refine V_iload3 eX0_doneMany_20 ?_
    refine D_callR (pc' := 24) (st := [.int a1]) H (fun v h' c1 s1 e cb sb k => ?_) (fun v4 h c s H => ?_)
    · obtain ⟨a, hr, ha, hk, e9⟩ := zv1_ok e
      cases hr
      exact V_invokevirtual (k := 30) eX0_doneMany_21 lmJ2_get q160 q161 rfl rfl q162 ha hk (c_J2_get e9) (hRet_oR _ _) rfl rfl rfl rfl (kOR k)
    refine V_astore4 rfl eX0_doneMany_24 rfl (zrf_rf _) ?_
    refine V_aload4 eX0_doneMany_26 (zrf_rf _) ?_
    refine D_inst eX0_doneMany_28 q1014 y_X18_ok n_X18_ok H (fun v5 H => ?_)
    refine V_ifeq eX0_doneMany_31 (fun q => ?_) (fun q => ?_)
    · have H := zif_t q H
      exact V_fg2 (b_X0_doneMany_53 hk4 H) (zfg_k (zfg_n (zfg_n (zfg_k (zfg_n zfg_e)))))
    · have H := zif_f q H
      refine V_aload4 eX0_doneMany_34 (zrf_rf _) ?_
      refine D_cast eX0_doneMany_36 q1014 y_X18_ok H (fun H => ?_)
      refine V_astore2 rfl eX0_doneMany_39 rfl (zrf_rf _) ?_
      refine V_aload2 eX0_doneMany_40 (zrf_rf _) ?_
      refine D_gI eX0_doneMany_41 fq_X0_503_tI H (fun v6 H => ?_)
      refine V_bipush (v := -5) (by decide) eX0_doneMany_44 ?_
      refine V_if_icmpeq eX0_doneMany_46 (fun q => ?_) (fun q => ?_)
      · have H := zif_t q H
        exact V_fg2 (b_X0_doneMany_53 hk4 H) (zfg_k (zfg_n (zfg_n (zfg_k (zfg_n zfg_e)))))
      · have H := zif_f q H
        refine V_iconst (v := 1) (by decide) eX0_doneMany_49 ?_
        refine V_goto eX0_doneMany_50 ?_
        exact V_fg2 (b_X0_doneMany_54 hk4 H) (zfg_k (zfg_n (zfg_n (zfg_k (zfg_n zfg_e)))))
theorem b_X0_doneMany_4 {w : Wd} {F : Nat} {x : Nat} : ∀ (n : Nat) (a1 : Int32) (a3 : Int32) (h : Hp) (y : Int32) (h1 : Hp) (c s : Nat), d_X0_doneMany_4 w F x n a1 a3 h = some (y, h1, c, s) → V w mX0_doneMany cX0_doneMany 3 c s h 4 [some (va_rf (some x)), some (.int a1), none, some (.int a3), none] [] (Ro (oI y) h1) := by
  intro n
  induction n with
  | zero => intro a1 a3 h y h1 c s H; exact zno_no H
  | succ n ih => intro a1 a3 h y h1 c s H; exact bB_X0_doneMany_4 ih H
theorem c_X0_doneMany {w : Wd} {F : Nat} {x : Nat} {h h1 : Hp} {y : Int32} {c s : Nat} (H : o_X0_doneMany w F x h = some (y, h1, c, s)) : Con w mX0_doneMany cX0_doneMany 3 c s [.ref x] h (Ro (oI y) h1) := by
  unfold o_X0_doneMany at H
  refine Con.of (ls := [some (va_rf (some x)), none, none, none, none]) (by decide +kernel) rfl rfl ?_
  refine V_iconst (v := 0) (by decide) eX0_doneMany_0 ?_
  refine V_istore1 (znl_rf _) eX0_doneMany_1 rfl ?_
  refine V_iconst (v := 0) (by decide) eX0_doneMany_2 ?_
  refine V_istore3 rfl eX0_doneMany_3 rfl ?_
  exact V_fg2 (b_X0_doneMany_4 _ _ _ _ _ _ _ _ H) (zfg_k (zfg_k (zfg_n (zfg_k (zfg_n zfg_e)))))
def o_X0_count (w : Wd) (F : Nat) (x : Nat) (a1 : Int32) : M Int32 :=
  zif (a1 = (0 : Int32)) (zbd (zgR f_X0_towns (some x)) fun v1 =>
  zbd (zv1 30 v1 (fun a => o_J2_size w F a)) fun v2 =>
  zrt v2)
  (zif (a1 = (1 : Int32)) (zbd (zgR f_X0_papers (some x)) fun v3 =>
  zbd (zv1 30 v3 (fun a => o_J2_size w F a)) fun v4 =>
  zrt v4)
  (zif (a1 = (2 : Int32)) (zbd (zgR f_X0_orders (some x)) fun v5 =>
  zbd (zv1 30 v5 (fun a => o_J2_size w F a)) fun v6 =>
  zrt v6)
  (zif (a1 = (3 : Int32)) (zbd (zgI f_X0_today (some x)) fun v7 =>
  zrt v7)
  (zif (a1 = (4 : Int32)) (zbd (zgI f_X0_taped (some x)) fun v8 =>
  zrt v8)
  (zif (a1 = (5 : Int32)) (zbd (zgI f_X0_men (some x)) fun v9 =>
  zrt v9)
  (zif (a1 = (6 : Int32)) (zbd (zv1 0 (some x) (fun a => o_X0_grantedMany w F a)) fun v10 =>
  zrt v10)
  (zif (a1 = (7 : Int32)) (zbd (zv1 0 (some x) (fun a => o_X0_doneMany w F a)) fun v11 =>
  zrt v11)
  (zif (a1 = (8 : Int32)) (zbd (zgI f_X0_jobs (some x)) fun v12 =>
  zrt v12)
  (zif (a1 = (9 : Int32)) (zbd (zgR f_X0_standing (some x)) fun v13 =>
  zbd (zv1 30 v13 (fun a => o_J2_size w F a)) fun v14 =>
  zrt v14)
  (zif (a1 = (10 : Int32)) (zbd (zgR f_X0_votes (some x)) fun v15 =>
  zbd (zv1 30 v15 (fun a => o_J2_size w F a)) fun v16 =>
  zrt v16)
  (zrt (-1 : Int32))))))))))))
theorem c_X0_count {w : Wd} {F : Nat} {x : Nat} {a1 : Int32} {h h1 : Hp} {y : Int32} {c s : Nat} (H : o_X0_count w F x a1 h = some (y, h1, c, s)) : Con w mX0_count cX0_count 4 c s [.ref x, .int a1] h (Ro (oI y) h1) := by
  unfold o_X0_count at H
  refine Con.of (ls := [some (va_rf (some x)), some (.int a1)]) (by decide +kernel) rfl rfl ?_
  refine V_iload1 eX0_count_0 ?_
  refine V_tableswitch eX0_count_1 (fun i t e1 e2 => ?_) (fun q => ?_)
  · rcases (show i = 0 ∨ i = 1 ∨ i = 2 ∨ i = 3 ∨ i = 4 ∨ i = 5 ∨ i = 6 ∨ i = 7 ∨ i = 8 ∨ i = 9 ∨ i = 10 ∨ 11 ≤ i by omega) with rfl | rfl | rfl | rfl | rfl | rfl | rfl | rfl | rfl | rfl | rfl | hlt
    · cases (show some 60 = some t from e1)
      have q : a1 = (0 : Int32) := Int32.toInt_inj.mp (e2.trans (by decide))
      have H := zif_t q H
      refine V_aload0 eX0_count_60 (zrf_rf _) ?_
      refine D_gR eX0_count_61 fq_X0_28_tR H (fun v1 H => ?_)
      refine D_callI (pc' := 67) (st := []) H (fun v h' c1 s1 e cb sb k => ?_) (fun v2 h c s H => ?_)
      · obtain ⟨a, hr, ha, hk, e9⟩ := zv1_ok e
        cases hr
        exact V_invokevirtual (k := 30) eX0_count_64 lmJ2_size q156 q157 rfl rfl q158 ha hk (c_J2_size e9) (hRet_oI _ _) rfl rfl rfl rfl (kOI k)
      obtain ⟨rfl, rfl, rfl, rfl⟩ := zrt_ok H
      exact V_ireturn eX0_count_67 rfl ⟨rfl, rfl⟩
    · cases (show some 68 = some t from e1)
      have q : a1 = (1 : Int32) := Int32.toInt_inj.mp (e2.trans (by decide))
      have H := zif_f (show ¬ a1 = (0 : Int32) from fun z => absurd (q.symm.trans z) (by decide)) H
      have H := zif_t q H
      refine V_aload0 eX0_count_68 (zrf_rf _) ?_
      refine D_gR eX0_count_69 fq_X0_121_tR H (fun v3 H => ?_)
      refine D_callI (pc' := 75) (st := []) H (fun v h' c1 s1 e cb sb k => ?_) (fun v4 h c s H => ?_)
      · obtain ⟨a, hr, ha, hk, e9⟩ := zv1_ok e
        cases hr
        exact V_invokevirtual (k := 30) eX0_count_72 lmJ2_size q156 q157 rfl rfl q158 ha hk (c_J2_size e9) (hRet_oI _ _) rfl rfl rfl rfl (kOI k)
      obtain ⟨rfl, rfl, rfl, rfl⟩ := zrt_ok H
      exact V_ireturn eX0_count_75 rfl ⟨rfl, rfl⟩
    · cases (show some 76 = some t from e1)
      have q : a1 = (2 : Int32) := Int32.toInt_inj.mp (e2.trans (by decide))
      have H := zif_f (show ¬ a1 = (0 : Int32) from fun z => absurd (q.symm.trans z) (by decide)) H
      have H := zif_f (show ¬ a1 = (1 : Int32) from fun z => absurd (q.symm.trans z) (by decide)) H
      have H := zif_t q H
      refine V_aload0 eX0_count_76 (zrf_rf _) ?_
      refine D_gR eX0_count_77 fq_X0_77_tR H (fun v5 H => ?_)
      refine D_callI (pc' := 83) (st := []) H (fun v h' c1 s1 e cb sb k => ?_) (fun v6 h c s H => ?_)
      · obtain ⟨a, hr, ha, hk, e9⟩ := zv1_ok e
        cases hr
        exact V_invokevirtual (k := 30) eX0_count_80 lmJ2_size q156 q157 rfl rfl q158 ha hk (c_J2_size e9) (hRet_oI _ _) rfl rfl rfl rfl (kOI k)
      obtain ⟨rfl, rfl, rfl, rfl⟩ := zrt_ok H
      exact V_ireturn eX0_count_83 rfl ⟨rfl, rfl⟩
    · cases (show some 84 = some t from e1)
      have q : a1 = (3 : Int32) := Int32.toInt_inj.mp (e2.trans (by decide))
      have H := zif_f (show ¬ a1 = (0 : Int32) from fun z => absurd (q.symm.trans z) (by decide)) H
      have H := zif_f (show ¬ a1 = (1 : Int32) from fun z => absurd (q.symm.trans z) (by decide)) H
      have H := zif_f (show ¬ a1 = (2 : Int32) from fun z => absurd (q.symm.trans z) (by decide)) H
      have H := zif_t q H
      refine V_aload0 eX0_count_84 (zrf_rf _) ?_
      refine D_gI eX0_count_85 fq_X0_194_tI H (fun v7 H => ?_)
      obtain ⟨rfl, rfl, rfl, rfl⟩ := zrt_ok H
      exact V_ireturn eX0_count_88 rfl ⟨rfl, rfl⟩
    · cases (show some 89 = some t from e1)
      have q : a1 = (4 : Int32) := Int32.toInt_inj.mp (e2.trans (by decide))
      have H := zif_f (show ¬ a1 = (0 : Int32) from fun z => absurd (q.symm.trans z) (by decide)) H
      have H := zif_f (show ¬ a1 = (1 : Int32) from fun z => absurd (q.symm.trans z) (by decide)) H
      have H := zif_f (show ¬ a1 = (2 : Int32) from fun z => absurd (q.symm.trans z) (by decide)) H
      have H := zif_f (show ¬ a1 = (3 : Int32) from fun z => absurd (q.symm.trans z) (by decide)) H
      have H := zif_t q H
      refine V_aload0 eX0_count_89 (zrf_rf _) ?_
      refine D_gI eX0_count_90 fq_X0_67_tI H (fun v8 H => ?_)
      obtain ⟨rfl, rfl, rfl, rfl⟩ := zrt_ok H
      exact V_ireturn eX0_count_93 rfl ⟨rfl, rfl⟩
    · cases (show some 94 = some t from e1)
      have q : a1 = (5 : Int32) := Int32.toInt_inj.mp (e2.trans (by decide))
      have H := zif_f (show ¬ a1 = (0 : Int32) from fun z => absurd (q.symm.trans z) (by decide)) H
      have H := zif_f (show ¬ a1 = (1 : Int32) from fun z => absurd (q.symm.trans z) (by decide)) H
      have H := zif_f (show ¬ a1 = (2 : Int32) from fun z => absurd (q.symm.trans z) (by decide)) H
      have H := zif_f (show ¬ a1 = (3 : Int32) from fun z => absurd (q.symm.trans z) (by decide)) H
      have H := zif_f (show ¬ a1 = (4 : Int32) from fun z => absurd (q.symm.trans z) (by decide)) H
      have H := zif_t q H
      refine V_aload0 eX0_count_94 (zrf_rf _) ?_
      refine D_gI eX0_count_95 fq_X0_64_tI H (fun v9 H => ?_)
      obtain ⟨rfl, rfl, rfl, rfl⟩ := zrt_ok H
      exact V_ireturn eX0_count_98 rfl ⟨rfl, rfl⟩
    · cases (show some 99 = some t from e1)
      have q : a1 = (6 : Int32) := Int32.toInt_inj.mp (e2.trans (by decide))
      have H := zif_f (show ¬ a1 = (0 : Int32) from fun z => absurd (q.symm.trans z) (by decide)) H
      have H := zif_f (show ¬ a1 = (1 : Int32) from fun z => absurd (q.symm.trans z) (by decide)) H
      have H := zif_f (show ¬ a1 = (2 : Int32) from fun z => absurd (q.symm.trans z) (by decide)) H
      have H := zif_f (show ¬ a1 = (3 : Int32) from fun z => absurd (q.symm.trans z) (by decide)) H
      have H := zif_f (show ¬ a1 = (4 : Int32) from fun z => absurd (q.symm.trans z) (by decide)) H
      have H := zif_f (show ¬ a1 = (5 : Int32) from fun z => absurd (q.symm.trans z) (by decide)) H
      have H := zif_t q H
      refine V_aload0 eX0_count_99 (zrf_rf _) ?_
      refine D_callI (pc' := 103) (st := []) H (fun v h' c1 s1 e cb sb k => ?_) (fun v10 h c s H => ?_)
      · obtain ⟨a, hr, ha, hk, e9⟩ := zv1_ok e
        cases hr
        exact V_invokevirtual (k := 0) eX0_count_100 lmX0_grantedMany q1103 q1105 rfl rfl qs37 ha hk (c_X0_grantedMany e9) (hRet_oI _ _) rfl rfl rfl rfl (kOI k)
      obtain ⟨rfl, rfl, rfl, rfl⟩ := zrt_ok H
      exact V_ireturn eX0_count_103 rfl ⟨rfl, rfl⟩
    · cases (show some 104 = some t from e1)
      have q : a1 = (7 : Int32) := Int32.toInt_inj.mp (e2.trans (by decide))
      have H := zif_f (show ¬ a1 = (0 : Int32) from fun z => absurd (q.symm.trans z) (by decide)) H
      have H := zif_f (show ¬ a1 = (1 : Int32) from fun z => absurd (q.symm.trans z) (by decide)) H
      have H := zif_f (show ¬ a1 = (2 : Int32) from fun z => absurd (q.symm.trans z) (by decide)) H
      have H := zif_f (show ¬ a1 = (3 : Int32) from fun z => absurd (q.symm.trans z) (by decide)) H
      have H := zif_f (show ¬ a1 = (4 : Int32) from fun z => absurd (q.symm.trans z) (by decide)) H
      have H := zif_f (show ¬ a1 = (5 : Int32) from fun z => absurd (q.symm.trans z) (by decide)) H
      have H := zif_f (show ¬ a1 = (6 : Int32) from fun z => absurd (q.symm.trans z) (by decide)) H
      have H := zif_t q H
      refine V_aload0 eX0_count_104 (zrf_rf _) ?_
      refine D_callI (pc' := 108) (st := []) H (fun v h' c1 s1 e cb sb k => ?_) (fun v11 h c s H => ?_)
      · obtain ⟨a, hr, ha, hk, e9⟩ := zv1_ok e
        cases hr
        exact V_invokevirtual (k := 0) eX0_count_105 lmX0_doneMany q1830 q1832 rfl rfl qs53 ha hk (c_X0_doneMany e9) (hRet_oI _ _) rfl rfl rfl rfl (kOI k)
      obtain ⟨rfl, rfl, rfl, rfl⟩ := zrt_ok H
      exact V_ireturn eX0_count_108 rfl ⟨rfl, rfl⟩
    · cases (show some 109 = some t from e1)
      have q : a1 = (8 : Int32) := Int32.toInt_inj.mp (e2.trans (by decide))
      have H := zif_f (show ¬ a1 = (0 : Int32) from fun z => absurd (q.symm.trans z) (by decide)) H
      have H := zif_f (show ¬ a1 = (1 : Int32) from fun z => absurd (q.symm.trans z) (by decide)) H
      have H := zif_f (show ¬ a1 = (2 : Int32) from fun z => absurd (q.symm.trans z) (by decide)) H
      have H := zif_f (show ¬ a1 = (3 : Int32) from fun z => absurd (q.symm.trans z) (by decide)) H
      have H := zif_f (show ¬ a1 = (4 : Int32) from fun z => absurd (q.symm.trans z) (by decide)) H
      have H := zif_f (show ¬ a1 = (5 : Int32) from fun z => absurd (q.symm.trans z) (by decide)) H
      have H := zif_f (show ¬ a1 = (6 : Int32) from fun z => absurd (q.symm.trans z) (by decide)) H
      have H := zif_f (show ¬ a1 = (7 : Int32) from fun z => absurd (q.symm.trans z) (by decide)) H
      have H := zif_t q H
      refine V_aload0 eX0_count_109 (zrf_rf _) ?_
      refine D_gI eX0_count_110 fq_X0_391_tI H (fun v12 H => ?_)
      obtain ⟨rfl, rfl, rfl, rfl⟩ := zrt_ok H
      exact V_ireturn eX0_count_113 rfl ⟨rfl, rfl⟩
    · cases (show some 114 = some t from e1)
      have q : a1 = (9 : Int32) := Int32.toInt_inj.mp (e2.trans (by decide))
      have H := zif_f (show ¬ a1 = (0 : Int32) from fun z => absurd (q.symm.trans z) (by decide)) H
      have H := zif_f (show ¬ a1 = (1 : Int32) from fun z => absurd (q.symm.trans z) (by decide)) H
      have H := zif_f (show ¬ a1 = (2 : Int32) from fun z => absurd (q.symm.trans z) (by decide)) H
      have H := zif_f (show ¬ a1 = (3 : Int32) from fun z => absurd (q.symm.trans z) (by decide)) H
      have H := zif_f (show ¬ a1 = (4 : Int32) from fun z => absurd (q.symm.trans z) (by decide)) H
      have H := zif_f (show ¬ a1 = (5 : Int32) from fun z => absurd (q.symm.trans z) (by decide)) H
      have H := zif_f (show ¬ a1 = (6 : Int32) from fun z => absurd (q.symm.trans z) (by decide)) H
      have H := zif_f (show ¬ a1 = (7 : Int32) from fun z => absurd (q.symm.trans z) (by decide)) H
      have H := zif_f (show ¬ a1 = (8 : Int32) from fun z => absurd (q.symm.trans z) (by decide)) H
      have H := zif_t q H
      refine V_aload0 eX0_count_114 (zrf_rf _) ?_
      refine D_gR eX0_count_115 fq_X0_169_tR H (fun v13 H => ?_)
      refine D_callI (pc' := 121) (st := []) H (fun v h' c1 s1 e cb sb k => ?_) (fun v14 h c s H => ?_)
      · obtain ⟨a, hr, ha, hk, e9⟩ := zv1_ok e
        cases hr
        exact V_invokevirtual (k := 30) eX0_count_118 lmJ2_size q156 q157 rfl rfl q158 ha hk (c_J2_size e9) (hRet_oI _ _) rfl rfl rfl rfl (kOI k)
      obtain ⟨rfl, rfl, rfl, rfl⟩ := zrt_ok H
      exact V_ireturn eX0_count_121 rfl ⟨rfl, rfl⟩
    · cases (show some 122 = some t from e1)
      have q : a1 = (10 : Int32) := Int32.toInt_inj.mp (e2.trans (by decide))
      have H := zif_f (show ¬ a1 = (0 : Int32) from fun z => absurd (q.symm.trans z) (by decide)) H
      have H := zif_f (show ¬ a1 = (1 : Int32) from fun z => absurd (q.symm.trans z) (by decide)) H
      have H := zif_f (show ¬ a1 = (2 : Int32) from fun z => absurd (q.symm.trans z) (by decide)) H
      have H := zif_f (show ¬ a1 = (3 : Int32) from fun z => absurd (q.symm.trans z) (by decide)) H
      have H := zif_f (show ¬ a1 = (4 : Int32) from fun z => absurd (q.symm.trans z) (by decide)) H
      have H := zif_f (show ¬ a1 = (5 : Int32) from fun z => absurd (q.symm.trans z) (by decide)) H
      have H := zif_f (show ¬ a1 = (6 : Int32) from fun z => absurd (q.symm.trans z) (by decide)) H
      have H := zif_f (show ¬ a1 = (7 : Int32) from fun z => absurd (q.symm.trans z) (by decide)) H
      have H := zif_f (show ¬ a1 = (8 : Int32) from fun z => absurd (q.symm.trans z) (by decide)) H
      have H := zif_f (show ¬ a1 = (9 : Int32) from fun z => absurd (q.symm.trans z) (by decide)) H
      have H := zif_t q H
      refine V_aload0 eX0_count_122 (zrf_rf _) ?_
      refine D_gR eX0_count_123 fq_X0_154_tR H (fun v15 H => ?_)
      refine D_callI (pc' := 129) (st := []) H (fun v h' c1 s1 e cb sb k => ?_) (fun v16 h c s H => ?_)
      · obtain ⟨a, hr, ha, hk, e9⟩ := zv1_ok e
        cases hr
        exact V_invokevirtual (k := 30) eX0_count_126 lmJ2_size q156 q157 rfl rfl q158 ha hk (c_J2_size e9) (hRet_oI _ _) rfl rfl rfl rfl (kOI k)
      obtain ⟨rfl, rfl, rfl, rfl⟩ := zrt_ok H
      exact V_ireturn eX0_count_129 rfl ⟨rfl, rfl⟩
    · rw [List.getElem?_eq_none (by simpa using hlt)] at e1; cases e1
  · have q9 := q
    have H := zif_f (show ¬ a1 = (0 : Int32) from fun z => by rw [z] at q9; exact absurd q9 (by decide)) H
    have H := zif_f (show ¬ a1 = (1 : Int32) from fun z => by rw [z] at q9; exact absurd q9 (by decide)) H
    have H := zif_f (show ¬ a1 = (2 : Int32) from fun z => by rw [z] at q9; exact absurd q9 (by decide)) H
    have H := zif_f (show ¬ a1 = (3 : Int32) from fun z => by rw [z] at q9; exact absurd q9 (by decide)) H
    have H := zif_f (show ¬ a1 = (4 : Int32) from fun z => by rw [z] at q9; exact absurd q9 (by decide)) H
    have H := zif_f (show ¬ a1 = (5 : Int32) from fun z => by rw [z] at q9; exact absurd q9 (by decide)) H
    have H := zif_f (show ¬ a1 = (6 : Int32) from fun z => by rw [z] at q9; exact absurd q9 (by decide)) H
    have H := zif_f (show ¬ a1 = (7 : Int32) from fun z => by rw [z] at q9; exact absurd q9 (by decide)) H
    have H := zif_f (show ¬ a1 = (8 : Int32) from fun z => by rw [z] at q9; exact absurd q9 (by decide)) H
    have H := zif_f (show ¬ a1 = (9 : Int32) from fun z => by rw [z] at q9; exact absurd q9 (by decide)) H
    have H := zif_f (show ¬ a1 = (10 : Int32) from fun z => by rw [z] at q9; exact absurd q9 (by decide)) H
    refine V_iconst (v := -1) (by decide) eX0_count_130 ?_
    obtain ⟨rfl, rfl, rfl, rfl⟩ := zrt_ok H
    exact V_ireturn eX0_count_131 rfl ⟨rfl, rfl⟩
def d_X0_sheet_28 (w : Wd) (F : Nat) : M Int32 :=
  zrt (-2 : Int32)
def d_X0_sheet_100 (w : Wd) (F : Nat) (s0 : Option Nat) (s1 : Int32) (s2 : Option Nat) : M Int32 :=
  zbd (zsR 7 s0 s1 s2) fun _ =>
  zrt (1 : Int32)
def d_X0_sheet_42 (w : Wd) (F : Nat) (x : Nat) (a1 : Int32) (a2 : Int32) (a3 : Int32) : M Int32 :=
  zbd (zgR f_X0_sheets (some x)) fun v3 =>
  zif (0 ≤ a2) (zif (a2 = 0) (zbd (znw 26 0 1) fun n10 =>
  zbd (znA 200 (zgo n10 5) a3) fun n11 =>
  zbd (znn n10 (fun a => o_X26_init w F a n11)) fun _ =>
  d_X0_sheet_100 w F v3 a1 n10)
  (zif (a2 = (1 : Int32)) (zbd (znw 28 0 1) fun n7 =>
  zbd (znA 250 (zgo n7 5) a3) fun n8 =>
  zbd (znn n7 (fun a => o_X28_init w F a n8)) fun _ =>
  d_X0_sheet_100 w F v3 a1 n7)
  (zbd (znw 27 0 1) fun n4 =>
  zbd (znA 100 (zgo n4 5) a3) fun n5 =>
  zbd (znn n4 (fun a => o_X27_init w F a n5)) fun _ =>
  d_X0_sheet_100 w F v3 a1 n4)))
  (d_X0_sheet_100 w F v3 a1 none)
def d_X0_sheet_31 (w : Wd) (F : Nat) (x : Nat) (a1 : Int32) (a2 : Int32) (a3 : Int32) : M Int32 :=
  zif (a2 < 0) (d_X0_sheet_42 w F x a1 a2 a3)
  (zif (0 ≤ a3) (d_X0_sheet_42 w F x a1 a2 a3)
  (zrt (-14 : Int32)))
def o_X0_sheet (w : Wd) (F : Nat) (x : Nat) (a1 : Int32) (a2 : Int32) (a3 : Int32) : M Int32 :=
  zbd (o_X0_isSheet w F a1) fun v1 =>
  zif (v1 = 0) (zrt (-1 : Int32))
  (zbd (o_X0_in w F a2 (-1 : Int32) (2 : Int32)) fun v2 =>
  zif (v2 = 0) (d_X0_sheet_28 w F)
  (zif (a2 < 0) (d_X0_sheet_31 w F x a1 a2 a3)
  (zif (a3 ≤ (40 : Int32)) (d_X0_sheet_31 w F x a1 a2 a3)
  (d_X0_sheet_28 w F))))
theorem b_X0_sheet_28 {w : Wd} {F : Nat} {h h1 : Hp} {y : Int32} {c s : Nat} (H : d_X0_sheet_28 w F h = some (y, h1, c, s)) : V w mX0_sheet cX0_sheet 3 c s h 28 [none, none, none, none] [] (Ro (oI y) h1) := by
  unfold d_X0_sheet_28 at H
  refine V_bipush (v := -2) (by decide) eX0_sheet_28 ?_
  obtain ⟨rfl, rfl, rfl, rfl⟩ := zrt_ok H
  exact V_ireturn eX0_sheet_30 rfl ⟨rfl, rfl⟩
theorem b_X0_sheet_100 {w : Wd} {F : Nat} {s0 : Option Nat} {s1 : Int32} {s2 : Option Nat} {h h1 : Hp} {y : Int32} {c s : Nat} (H : d_X0_sheet_100 w F s0 s1 s2 h = some (y, h1, c, s)) : V w mX0_sheet cX0_sheet 3 c s h 100 [none, none, none, none] [va_rf s2, .int s1, va_rf s0] (Ro (oI y) h1) := by
  unfold d_X0_sheet_100 at H
  refine D_aastore eX0_sheet_100 H (fun h H => ?_)
  refine V_iconst (v := 1) (by decide) eX0_sheet_101 ?_
  obtain ⟨rfl, rfl, rfl, rfl⟩ := zrt_ok H
  exact V_ireturn eX0_sheet_102 rfl ⟨rfl, rfl⟩
theorem b_X0_sheet_42 {w : Wd} {F : Nat} {x : Nat} {a1 : Int32} {a2 : Int32} {a3 : Int32} {h h1 : Hp} {y : Int32} {c s : Nat} (H : d_X0_sheet_42 w F x a1 a2 a3 h = some (y, h1, c, s)) : V w mX0_sheet cX0_sheet 3 c s h 42 [some (va_rf (some x)), some (.int a1), some (.int a2), some (.int a3)] [] (Ro (oI y) h1) := by
  unfold d_X0_sheet_42 at H
  refine V_aload0 eX0_sheet_42 (zrf_rf _) ?_
  refine D_gR eX0_sheet_43 fq_X0_179_tR H (fun v3 H => ?_)
  refine V_iload1 eX0_sheet_46 ?_
  refine V_iload2 eX0_sheet_47 ?_
  refine V_ifge eX0_sheet_48 (fun q => ?_) (fun q => ?_)
  · have H := zif_t q H
    refine V_iload2 eX0_sheet_55 ?_
    refine V_ifne eX0_sheet_56 (fun q => ?_) (fun q => ?_)
    · have H := zif_f q H
      refine V_iload2 eX0_sheet_72 ?_
      refine V_iconst (v := 1) (by decide) eX0_sheet_73 ?_
      refine V_if_icmpne eX0_sheet_74 (fun q => ?_) (fun q => ?_)
      · have H := zif_f q H
        refine D_new (g := 0) eX0_sheet_90 nl_X0_235 rfl H (fun n4 h c s H => ?_)
        refine V_dup (zcr _) eX0_sheet_93 ?_
        refine V_iload3 eX0_sheet_94 ?_
        refine D_newarray (g := (zgo n4 5)) (κ := 100) (cT := 0) eX0_sheet_95 rfl rfl rfl q585 rfl (by decide) H (fun n5 h c s H => ?_)
        refine D_callU (pc' := 100) (st := [va_rf n4, .int a1, va_rf v3]) H (fun v h' c1 s1 e cb sb k => ?_) (fun v6 h c s H => ?_)
        · obtain ⟨a, hr, e9⟩ := znn_ok e
          cases hr
          exact V_invokeinit eX0_sheet_97 lmX27_init rfl rfl q1841 q1709 (c_X27_init e9) (hRet_oU _ _) rfl rfl rfl (by simp only [List.map_cons, List.map_nil, zcr]; rfl) (kOU k)
        exact V_fg2 (b_X0_sheet_100 H) (zfg_n (zfg_n (zfg_n (zfg_n zfg_e))))
      · have H := zif_t q H
        refine D_new (g := 0) eX0_sheet_77 nl_X0_558 rfl H (fun n7 h c s H => ?_)
        refine V_dup (zcr _) eX0_sheet_80 ?_
        refine V_iload3 eX0_sheet_81 ?_
        refine D_newarray (g := (zgo n7 5)) (κ := 250) (cT := 3) eX0_sheet_82 rfl rfl rfl q1734 rfl (by decide) H (fun n8 h c s H => ?_)
        refine D_callU (pc' := 87) (st := [va_rf n7, .int a1, va_rf v3]) H (fun v h' c1 s1 e cb sb k => ?_) (fun v9 h c s H => ?_)
        · obtain ⟨a, hr, e9⟩ := znn_ok e
          cases hr
          exact V_invokeinit eX0_sheet_84 lmX28_init rfl rfl q1840 q1727 (c_X28_init e9) (hRet_oU _ _) rfl rfl rfl (by simp only [List.map_cons, List.map_nil, zcr]; rfl) (kOU k)
        refine V_goto eX0_sheet_87 ?_
        exact V_fg2 (b_X0_sheet_100 H) (zfg_n (zfg_n (zfg_n (zfg_n zfg_e))))
    · have H := zif_t q H
      refine D_new (g := 0) eX0_sheet_59 nl_X0_251 rfl H (fun n10 h c s H => ?_)
      refine V_dup (zcr _) eX0_sheet_62 ?_
      refine V_iload3 eX0_sheet_63 ?_
      refine D_newarray (g := (zgo n10 5)) (κ := 200) (cT := 2) eX0_sheet_64 rfl rfl rfl q587 rfl (by decide) H (fun n11 h c s H => ?_)
      refine D_callU (pc' := 69) (st := [va_rf n10, .int a1, va_rf v3]) H (fun v h' c1 s1 e cb sb k => ?_) (fun v12 h c s H => ?_)
      · obtain ⟨a, hr, e9⟩ := znn_ok e
        cases hr
        exact V_invokeinit eX0_sheet_66 lmX26_init rfl rfl q1838 q1690 (c_X26_init e9) (hRet_oU _ _) rfl rfl rfl (by simp only [List.map_cons, List.map_nil, zcr]; rfl) (kOU k)
      refine V_goto eX0_sheet_69 ?_
      exact V_fg2 (b_X0_sheet_100 H) (zfg_n (zfg_n (zfg_n (zfg_n zfg_e))))
  · have H := zif_f q H
    refine D_null eX0_sheet_51 ?_
    refine V_goto eX0_sheet_52 ?_
    exact V_fg2 (b_X0_sheet_100 H) (zfg_n (zfg_n (zfg_n (zfg_n zfg_e))))
theorem b_X0_sheet_31 {w : Wd} {F : Nat} {x : Nat} {a1 : Int32} {a2 : Int32} {a3 : Int32} {h h1 : Hp} {y : Int32} {c s : Nat} (H : d_X0_sheet_31 w F x a1 a2 a3 h = some (y, h1, c, s)) : V w mX0_sheet cX0_sheet 3 c s h 31 [some (va_rf (some x)), some (.int a1), some (.int a2), some (.int a3)] [] (Ro (oI y) h1) := by
  unfold d_X0_sheet_31 at H
  refine V_iload2 eX0_sheet_31 ?_
  refine V_iflt eX0_sheet_32 (fun q => ?_) (fun q => ?_)
  · have H := zif_t q H
    exact V_fg2 (b_X0_sheet_42 H) (zfg_k (zfg_k (zfg_k (zfg_k zfg_e))))
  · have H := zif_f q H
    refine V_iload3 eX0_sheet_35 ?_
    refine V_ifge eX0_sheet_36 (fun q => ?_) (fun q => ?_)
    · have H := zif_t q H
      exact V_fg2 (b_X0_sheet_42 H) (zfg_k (zfg_k (zfg_k (zfg_k zfg_e))))
    · have H := zif_f q H
      refine V_bipush (v := -14) (by decide) eX0_sheet_39 ?_
      obtain ⟨rfl, rfl, rfl, rfl⟩ := zrt_ok H
      exact V_ireturn eX0_sheet_41 rfl ⟨rfl, rfl⟩
theorem c_X0_sheet {w : Wd} {F : Nat} {x : Nat} {a1 : Int32} {a2 : Int32} {a3 : Int32} {h h1 : Hp} {y : Int32} {c s : Nat} (H : o_X0_sheet w F x a1 a2 a3 h = some (y, h1, c, s)) : Con w mX0_sheet cX0_sheet 3 c s [.ref x, .int a1, .int a2, .int a3] h (Ro (oI y) h1) := by
  unfold o_X0_sheet at H
  refine Con.of (ls := [some (va_rf (some x)), some (.int a1), some (.int a2), some (.int a3)]) (by decide +kernel) rfl rfl ?_
  refine V_iload1 eX0_sheet_0 ?_
  refine D_callI (pc' := 4) (st := []) H (fun v h' c1 s1 e cb sb k => ?_) (fun v1 h c s H => ?_)
  · exact V_invokestatic eX0_sheet_1 lmX0_isSheet q822 q823 (c_X0_isSheet e) (hRet_oI _ _) rfl rfl rfl rfl (kOI k)
  refine V_ifne eX0_sheet_4 (fun q => ?_) (fun q => ?_)
  · have H := zif_f q H
    refine V_iload2 eX0_sheet_9 ?_
    refine V_iconst (v := -1) (by decide) eX0_sheet_10 ?_
    refine V_iconst (v := 2) (by decide) eX0_sheet_11 ?_
    refine D_callI (pc' := 15) (st := []) H (fun v h' c1 s1 e cb sb k => ?_) (fun v2 h c s H => ?_)
    · exact V_invokestatic eX0_sheet_12 lmX0_in q149 q150 (c_X0_in e) (hRet_oI _ _) rfl rfl rfl rfl (kOI k)
    refine V_ifeq eX0_sheet_15 (fun q => ?_) (fun q => ?_)
    · have H := zif_t q H
      exact V_fg2 (b_X0_sheet_28 H) (zfg_n (zfg_n (zfg_n (zfg_n zfg_e))))
    · have H := zif_f q H
      refine V_iload2 eX0_sheet_18 ?_
      refine V_iflt eX0_sheet_19 (fun q => ?_) (fun q => ?_)
      · have H := zif_t q H
        exact V_fg2 (b_X0_sheet_31 H) (zfg_k (zfg_k (zfg_k (zfg_k zfg_e))))
      · have H := zif_f q H
        refine V_iload3 eX0_sheet_22 ?_
        refine V_bipush (v := 40) (by decide) eX0_sheet_23 ?_
        refine V_if_icmple eX0_sheet_25 (fun q => ?_) (fun q => ?_)
        · have H := zif_t q H
          exact V_fg2 (b_X0_sheet_31 H) (zfg_k (zfg_k (zfg_k (zfg_k zfg_e))))
        · have H := zif_f q H
          exact V_fg2 (b_X0_sheet_28 H) (zfg_n (zfg_n (zfg_n (zfg_n zfg_e))))
  · have H := zif_t q H
    refine V_iconst (v := -1) (by decide) eX0_sheet_7 ?_
    obtain ⟨rfl, rfl, rfl, rfl⟩ := zrt_ok H
    exact V_ireturn eX0_sheet_8 rfl ⟨rfl, rfl⟩
def o_X26_set (w : Wd) (F : Nat) (x : Nat) (a1 : Int32) (a2 : Int32) : M Unit :=
  zbd (zgR f_X26_of (some x)) fun v1 =>
  zbd (zsI 2 v1 a1 ((a2).toInt8.toInt32).toInt8.toInt32) fun _ =>
  zrt ()
theorem c_X26_set {w : Wd} {F : Nat} {x : Nat} {a1 : Int32} {a2 : Int32} {h h1 : Hp} {y : Unit} {c s : Nat} (H : o_X26_set w F x a1 a2 h = some (y, h1, c, s)) : Con w mX26_set cX26_set 0 c s [.ref x, .int a1, .int a2] h (Ro (oU y) h1) := by
  unfold o_X26_set at H
  refine Con.of (ls := [some (va_rf (some x)), some (.int a1), some (.int a2)]) (by decide +kernel) rfl rfl ?_
  refine V_aload0 eX26_set_0 (zrf_rf _) ?_
  refine D_gR eX26_set_1 fq_X26_7_tR H (fun v1 H => ?_)
  refine V_iload1 eX26_set_4 ?_
  refine V_iload2 eX26_set_5 ?_
  refine V_i2b eX26_set_6 ?_
  refine D_bastore eX26_set_7 H (fun h H => ?_)
  obtain ⟨rfl, rfl, rfl, rfl⟩ := zrt_ok H
  exact V_return (x := ()) eX26_set_8 rfl ⟨rfl, rfl⟩
def o_X27_set (w : Wd) (F : Nat) (x : Nat) (a1 : Int32) (a2 : Int32) : M Unit :=
  zbd (zgR f_X27_of (some x)) fun v1 =>
  zbd (zsI 0 v1 a1 a2) fun _ =>
  zrt ()
theorem c_X27_set {w : Wd} {F : Nat} {x : Nat} {a1 : Int32} {a2 : Int32} {h h1 : Hp} {y : Unit} {c s : Nat} (H : o_X27_set w F x a1 a2 h = some (y, h1, c, s)) : Con w mX27_set cX27_set 0 c s [.ref x, .int a1, .int a2] h (Ro (oU y) h1) := by
  unfold o_X27_set at H
  refine Con.of (ls := [some (va_rf (some x)), some (.int a1), some (.int a2)]) (by decide +kernel) rfl rfl ?_
  refine V_aload0 eX27_set_0 (zrf_rf _) ?_
  refine D_gR eX27_set_1 fq_X27_7_tR H (fun v1 H => ?_)
  refine V_iload1 eX27_set_4 ?_
  refine V_iload2 eX27_set_5 ?_
  refine D_iastore eX27_set_6 H (fun h H => ?_)
  obtain ⟨rfl, rfl, rfl, rfl⟩ := zrt_ok H
  exact V_return (x := ()) eX27_set_7 rfl ⟨rfl, rfl⟩
def o_X28_set (w : Wd) (F : Nat) (x : Nat) (a1 : Int32) (a2 : Int32) : M Unit :=
  zbd (zgR f_X28_of (some x)) fun v1 =>
  zbd (zsI 3 v1 a1 ((a2).toInt16.toInt32).toInt16.toInt32) fun _ =>
  zrt ()
theorem c_X28_set {w : Wd} {F : Nat} {x : Nat} {a1 : Int32} {a2 : Int32} {h h1 : Hp} {y : Unit} {c s : Nat} (H : o_X28_set w F x a1 a2 h = some (y, h1, c, s)) : Con w mX28_set cX28_set 0 c s [.ref x, .int a1, .int a2] h (Ro (oU y) h1) := by
  unfold o_X28_set at H
  refine Con.of (ls := [some (va_rf (some x)), some (.int a1), some (.int a2)]) (by decide +kernel) rfl rfl ?_
  refine V_aload0 eX28_set_0 (zrf_rf _) ?_
  refine D_gR eX28_set_1 fq_X28_7_tR H (fun v1 H => ?_)
  refine V_iload1 eX28_set_4 ?_
  refine V_iload2 eX28_set_5 ?_
  refine V_i2s eX28_set_6 ?_
  refine D_sastore eX28_set_7 H (fun h H => ?_)
  obtain ⟨rfl, rfl, rfl, rfl⟩ := zrt_ok H
  exact V_return (x := ()) eX28_set_8 rfl ⟨rfl, rfl⟩
def t_X25_set (w : Wd) (F : Nat) (p0 : Int32) (p1 : Int32) : Nat → Option (Nat → M Unit) := fun k => match k with
  | 26 => some (fun a => o_X26_set w F a p0 p1)
  | 27 => some (fun a => o_X27_set w F a p0 p1)
  | 28 => some (fun a => o_X28_set w F a p0 p1)
  | _ => none
theorem t_X25_set_ok {w : Wd} {F : Nat} {p0 : Int32} {p1 : Int32} {k : Nat} {f : Nat → M Unit} (e : t_X25_set w F p0 p1 k = some f) : (k = 26 ∧ f = fun a => o_X26_set w F a p0 p1) ∨ (k = 27 ∧ f = fun a => o_X27_set w F a p0 p1) ∨ (k = 28 ∧ f = fun a => o_X28_set w F a p0 p1) := by
  unfold t_X25_set at e
  split at e
  · cases e; exact Or.inl ⟨rfl, rfl⟩
  · cases e; exact Or.inr (Or.inl ⟨rfl, rfl⟩)
  · cases e; exact Or.inr (Or.inr (⟨rfl, rfl⟩))
  · cases e
def o_X0_item (w : Wd) (F : Nat) (x : Nat) (a1 : Int32) (a2 : Int32) (a3 : Int32) : M Int32 :=
  zbd (o_X0_isSheet w F a1) fun v1 =>
  zif (v1 = 0) (zrt (-1 : Int32))
  (zbd (zgR f_X0_sheets (some x)) fun v2 =>
  zbd (zaR v2 a1) fun v3 =>
  zif (v3 = none) (zrt (-11 : Int32))
  (zbd (zgR f_X0_sheets (some x)) fun v4 =>
  zbd (zaR v4 a1) fun v5 =>
  zbd (zvn (t_X25_size w F) v5) fun v6 =>
  zbd (o_X0_in w F a2 (0 : Int32) (v6 - (1 : Int32))) fun v7 =>
  zif (v7 = 0) (zrt (-12 : Int32))
  (zbd (zgR f_X0_sheets (some x)) fun v8 =>
  zbd (zaR v8 a1) fun v9 =>
  zbd (zvn (t_X25_set w F a2 a3) v9) fun _ =>
  zrt (1 : Int32))))
theorem c_X0_item {w : Wd} {F : Nat} {x : Nat} {a1 : Int32} {a2 : Int32} {a3 : Int32} {h h1 : Hp} {y : Int32} {c s : Nat} (H : o_X0_item w F x a1 a2 a3 h = some (y, h1, c, s)) : Con w mX0_item cX0_item 2 c s [.ref x, .int a1, .int a2, .int a3] h (Ro (oI y) h1) := by
  unfold o_X0_item at H
  refine Con.of (ls := [some (va_rf (some x)), some (.int a1), some (.int a2), some (.int a3)]) (by decide +kernel) rfl rfl ?_
  refine V_iload1 eX0_item_0 ?_
  refine D_callI (pc' := 4) (st := []) H (fun v h' c1 s1 e cb sb k => ?_) (fun v1 h c s H => ?_)
  · exact V_invokestatic eX0_item_1 lmX0_isSheet q822 q823 (c_X0_isSheet e) (hRet_oI _ _) rfl rfl rfl rfl (kOI k)
  refine V_ifne eX0_item_4 (fun q => ?_) (fun q => ?_)
  · have H := zif_f q H
    refine V_aload0 eX0_item_9 (zrf_rf _) ?_
    refine D_gR eX0_item_10 fq_X0_179_tR H (fun v2 H => ?_)
    refine V_iload1 eX0_item_13 ?_
    refine D_aaload eX0_item_14 H (fun v3 H => ?_)
    refine V_ifnonnull eX0_item_15 (fun a q => ?_) (fun q => ?_)
    · have H := zif_f (zsn q) H
      refine V_iload2 eX0_item_21 ?_
      refine V_iconst (v := 0) (by decide) eX0_item_22 ?_
      refine V_aload0 eX0_item_23 (zrf_rf _) ?_
      refine D_gR eX0_item_24 fq_X0_179_tR H (fun v4 H => ?_)
      refine V_iload1 eX0_item_27 ?_
      refine D_aaload eX0_item_28 H (fun v5 H => ?_)
      refine D_callI (pc' := 32) (st := [.int (0 : Int32), .int a2]) H (fun v h' c1 s1 e cb sb k => ?_) (fun v6 h c s H => ?_)
      · obtain ⟨a, f, hr, ha, ht, e9⟩ := zvn_ok e
        cases hr
        rcases t_X25_size_ok ht with ⟨hk, hf⟩ | ⟨hk, hf⟩ | ⟨hk, hf⟩
        · subst hf; exact V_invokevirtualU (k := 26) eX0_item_29 lmX26_size (⟨"LinesPromised$Sheet", q876, q878, q879, q880, q139, ⟨by decide, by decide⟩, rfl, Or.inr (Or.inr q877)⟩) (by decide) ha hk (c_X26_size e9) (hRet_oI _ _) rfl rfl rfl rfl (kOI k)
        · subst hf; exact V_invokevirtualU (k := 27) eX0_item_29 lmX27_size (⟨"LinesPromised$Sheet", q876, q878, q882, q883, q140, ⟨by decide, by decide⟩, rfl, Or.inr (Or.inr q877)⟩) (by decide) ha hk (c_X27_size e9) (hRet_oI _ _) rfl rfl rfl rfl (kOI k)
        · subst hf; exact V_invokevirtualU (k := 28) eX0_item_29 lmX28_size (⟨"LinesPromised$Sheet", q876, q878, q885, q886, q141, ⟨by decide, by decide⟩, rfl, Or.inr (Or.inr q877)⟩) (by decide) ha hk (c_X28_size e9) (hRet_oI _ _) rfl rfl rfl rfl (kOI k)
      refine V_iconst (v := 1) (by decide) eX0_item_32 ?_
      refine V_isub eX0_item_33 ?_
      refine D_callI (pc' := 37) (st := []) H (fun v h' c1 s1 e cb sb k => ?_) (fun v7 h c s H => ?_)
      · exact V_invokestatic eX0_item_34 lmX0_in q149 q150 (c_X0_in e) (hRet_oI _ _) rfl rfl rfl rfl (kOI k)
      refine V_ifne eX0_item_37 (fun q => ?_) (fun q => ?_)
      · have H := zif_f q H
        refine V_aload0 eX0_item_43 (zrf_rf _) ?_
        refine D_gR eX0_item_44 fq_X0_179_tR H (fun v8 H => ?_)
        refine V_iload1 eX0_item_47 ?_
        refine D_aaload eX0_item_48 H (fun v9 H => ?_)
        refine V_iload2 eX0_item_49 ?_
        refine V_iload3 eX0_item_50 ?_
        refine D_callU (pc' := 54) (st := []) H (fun v h' c1 s1 e cb sb k => ?_) (fun v10 h c s H => ?_)
        · obtain ⟨a, f, hr, ha, ht, e9⟩ := zvn_ok e
          cases hr
          rcases t_X25_set_ok ht with ⟨hk, hf⟩ | ⟨hk, hf⟩ | ⟨hk, hf⟩
          · subst hf; exact V_invokevirtualU (k := 26) eX0_item_51 lmX26_set (⟨"LinesPromised$Sheet", q1846, q1848, q1849, q1850, q139, ⟨by decide, by decide⟩, rfl, Or.inr (Or.inr q1847)⟩) (by decide) ha hk (c_X26_set e9) (hRet_oU _ _) rfl rfl rfl rfl (kOU k)
          · subst hf; exact V_invokevirtualU (k := 27) eX0_item_51 lmX27_set (⟨"LinesPromised$Sheet", q1846, q1848, q1852, q1853, q140, ⟨by decide, by decide⟩, rfl, Or.inr (Or.inr q1847)⟩) (by decide) ha hk (c_X27_set e9) (hRet_oU _ _) rfl rfl rfl rfl (kOU k)
          · subst hf; exact V_invokevirtualU (k := 28) eX0_item_51 lmX28_set (⟨"LinesPromised$Sheet", q1846, q1848, q1855, q1856, q141, ⟨by decide, by decide⟩, rfl, Or.inr (Or.inr q1847)⟩) (by decide) ha hk (c_X28_set e9) (hRet_oU _ _) rfl rfl rfl rfl (kOU k)
        refine V_iconst (v := 1) (by decide) eX0_item_54 ?_
        obtain ⟨rfl, rfl, rfl, rfl⟩ := zrt_ok H
        exact V_ireturn eX0_item_55 rfl ⟨rfl, rfl⟩
      · have H := zif_t q H
        refine V_bipush (v := -12) (by decide) eX0_item_40 ?_
        obtain ⟨rfl, rfl, rfl, rfl⟩ := zrt_ok H
        exact V_ireturn eX0_item_42 rfl ⟨rfl, rfl⟩
    · have H := zif_t q H
      refine V_bipush (v := -11) (by decide) eX0_item_18 ?_
      obtain ⟨rfl, rfl, rfl, rfl⟩ := zrt_ok H
      exact V_ireturn eX0_item_20 rfl ⟨rfl, rfl⟩
  · have H := zif_t q H
    refine V_iconst (v := -1) (by decide) eX0_item_7 ?_
    obtain ⟨rfl, rfl, rfl, rfl⟩ := zrt_ok H
    exact V_ireturn eX0_item_8 rfl ⟨rfl, rfl⟩
def o_X26_copyTo (w : Wd) (F : Nat) (x : Nat) (a1 : Int32) (a2 : Option Nat) (a3 : Int32) (a4 : Int32) : M Unit :=
  zbd (zgR f_X26_of (some x)) fun v1 =>
  zbd (zcc y_X26 a2) fun _ =>
  zbd (zgR f_X26_of a2) fun v2 =>
  zbd (zcpy 2 v1 a1 v2 a3 a4) fun _ =>
  zrt ()
theorem c_X26_copyTo {w : Wd} {F : Nat} {x : Nat} {a1 : Int32} {a2 : Option Nat} {a3 : Int32} {a4 : Int32} {h h1 : Hp} {y : Unit} {c s : Nat} (H : o_X26_copyTo w F x a1 a2 a3 a4 h = some (y, h1, c, s)) : Con w mX26_copyTo cX26_copyTo 1 c s [.ref x, .int a1, va_rf a2, .int a3, .int a4] h (Ro (oU y) h1) := by
  unfold o_X26_copyTo at H
  refine Con.of (ls := [some (va_rf (some x)), some (.int a1), some (va_rf a2), some (.int a3), some (.int a4)]) (by decide +kernel) (by simp only [zsl_r, zsl_i, zsl_l, zsl_n, zsl_a]; rfl) (by simp only [zar_r, zar_i, zar_l, zar_n, zar_a]; rfl) ?_
  refine V_aload0 eX26_copyTo_0 (zrf_rf _) ?_
  refine D_gR eX26_copyTo_1 fq_X26_7_tR H (fun v1 H => ?_)
  refine V_iload1 eX26_copyTo_4 ?_
  refine V_aload2 eX26_copyTo_5 (zrf_rf _) ?_
  refine D_cast eX26_copyTo_6 q1685 y_X26_ok H (fun H => ?_)
  refine D_gR eX26_copyTo_9 fq_X26_7_tR H (fun v2 H => ?_)
  refine V_iload3 eX26_copyTo_12 ?_
  refine V_iload4 eX26_copyTo_13 ?_
  refine D_acopy (cT := 2) eX26_copyTo_15 q1880 q269 q268 q110 rfl rfl H (fun h H => ?_)
  obtain ⟨rfl, rfl, rfl, rfl⟩ := zrt_ok H
  exact V_return (x := ()) eX26_copyTo_18 rfl ⟨rfl, rfl⟩
def o_X26_sort (w : Wd) (F : Nat) (x : Nat) : M Int32 :=
  zrt (0 : Int32)
theorem c_X26_sort {w : Wd} {F : Nat} {x : Nat} {h h1 : Hp} {y : Int32} {c s : Nat} (H : o_X26_sort w F x h = some (y, h1, c, s)) : Con w mX26_sort cX26_sort 0 c s [.ref x] h (Ro (oI y) h1) := by
  unfold o_X26_sort at H
  refine Con.of (ls := [some (va_rf (some x))]) (by decide +kernel) rfl rfl ?_
  refine V_iconst (v := 0) (by decide) eX26_sort_0 ?_
  obtain ⟨rfl, rfl, rfl, rfl⟩ := zrt_ok H
  exact V_ireturn eX26_sort_1 rfl ⟨rfl, rfl⟩
def o_X27_copyTo (w : Wd) (F : Nat) (x : Nat) (a1 : Int32) (a2 : Option Nat) (a3 : Int32) (a4 : Int32) : M Unit :=
  zbd (zgR f_X27_of (some x)) fun v1 =>
  zbd (zcc y_X27 a2) fun _ =>
  zbd (zgR f_X27_of a2) fun v2 =>
  zbd (zcpy 0 v1 a1 v2 a3 a4) fun _ =>
  zrt ()
theorem c_X27_copyTo {w : Wd} {F : Nat} {x : Nat} {a1 : Int32} {a2 : Option Nat} {a3 : Int32} {a4 : Int32} {h h1 : Hp} {y : Unit} {c s : Nat} (H : o_X27_copyTo w F x a1 a2 a3 a4 h = some (y, h1, c, s)) : Con w mX27_copyTo cX27_copyTo 1 c s [.ref x, .int a1, va_rf a2, .int a3, .int a4] h (Ro (oU y) h1) := by
  unfold o_X27_copyTo at H
  refine Con.of (ls := [some (va_rf (some x)), some (.int a1), some (va_rf a2), some (.int a3), some (.int a4)]) (by decide +kernel) (by simp only [zsl_r, zsl_i, zsl_l, zsl_n, zsl_a]; rfl) (by simp only [zar_r, zar_i, zar_l, zar_n, zar_a]; rfl) ?_
  refine V_aload0 eX27_copyTo_0 (zrf_rf _) ?_
  refine D_gR eX27_copyTo_1 fq_X27_7_tR H (fun v1 H => ?_)
  refine V_iload1 eX27_copyTo_4 ?_
  refine V_aload2 eX27_copyTo_5 (zrf_rf _) ?_
  refine D_cast eX27_copyTo_6 q1704 y_X27_ok H (fun H => ?_)
  refine D_gR eX27_copyTo_9 fq_X27_7_tR H (fun v2 H => ?_)
  refine V_iload3 eX27_copyTo_12 ?_
  refine V_iload4 eX27_copyTo_13 ?_
  refine D_acopy (cT := 0) eX27_copyTo_15 q1884 q269 q268 q110 rfl rfl H (fun h H => ?_)
  obtain ⟨rfl, rfl, rfl, rfl⟩ := zrt_ok H
  exact V_return (x := ()) eX27_copyTo_18 rfl ⟨rfl, rfl⟩
def o_X27_sort (w : Wd) (F : Nat) (x : Nat) : M Int32 :=
  zrt (2 : Int32)
theorem c_X27_sort {w : Wd} {F : Nat} {x : Nat} {h h1 : Hp} {y : Int32} {c s : Nat} (H : o_X27_sort w F x h = some (y, h1, c, s)) : Con w mX27_sort cX27_sort 0 c s [.ref x] h (Ro (oI y) h1) := by
  unfold o_X27_sort at H
  refine Con.of (ls := [some (va_rf (some x))]) (by decide +kernel) rfl rfl ?_
  refine V_iconst (v := 2) (by decide) eX27_sort_0 ?_
  obtain ⟨rfl, rfl, rfl, rfl⟩ := zrt_ok H
  exact V_ireturn eX27_sort_1 rfl ⟨rfl, rfl⟩
def y_X28 : Nat → Bool := fun k => match k with
  | 28 => true
  | _ => false
theorem y_X28_ok : ∀ k, y_X28 k = true → zok k = true ∧ ((zcl k).1 = "LinesPromised$Shorts" ∨ Cond.castable (zcl k).1 "LinesPromised$Shorts" ∈ lw_tbl) := by
  intro k e
  unfold y_X28 at e
  split at e
  · exact ⟨by decide, Or.inl rfl⟩
  · cases e
def o_X28_copyTo (w : Wd) (F : Nat) (x : Nat) (a1 : Int32) (a2 : Option Nat) (a3 : Int32) (a4 : Int32) : M Unit :=
  zbd (zgR f_X28_of (some x)) fun v1 =>
  zbd (zcc y_X28 a2) fun _ =>
  zbd (zgR f_X28_of a2) fun v2 =>
  zbd (zcpy 3 v1 a1 v2 a3 a4) fun _ =>
  zrt ()
theorem c_X28_copyTo {w : Wd} {F : Nat} {x : Nat} {a1 : Int32} {a2 : Option Nat} {a3 : Int32} {a4 : Int32} {h h1 : Hp} {y : Unit} {c s : Nat} (H : o_X28_copyTo w F x a1 a2 a3 a4 h = some (y, h1, c, s)) : Con w mX28_copyTo cX28_copyTo 1 c s [.ref x, .int a1, va_rf a2, .int a3, .int a4] h (Ro (oU y) h1) := by
  unfold o_X28_copyTo at H
  refine Con.of (ls := [some (va_rf (some x)), some (.int a1), some (va_rf a2), some (.int a3), some (.int a4)]) (by decide +kernel) (by simp only [zsl_r, zsl_i, zsl_l, zsl_n, zsl_a]; rfl) (by simp only [zar_r, zar_i, zar_l, zar_n, zar_a]; rfl) ?_
  refine V_aload0 eX28_copyTo_0 (zrf_rf _) ?_
  refine D_gR eX28_copyTo_1 fq_X28_7_tR H (fun v1 H => ?_)
  refine V_iload1 eX28_copyTo_4 ?_
  refine V_aload2 eX28_copyTo_5 (zrf_rf _) ?_
  refine D_cast eX28_copyTo_6 q1719 y_X28_ok H (fun H => ?_)
  refine D_gR eX28_copyTo_9 fq_X28_7_tR H (fun v2 H => ?_)
  refine V_iload3 eX28_copyTo_12 ?_
  refine V_iload4 eX28_copyTo_13 ?_
  refine D_acopy (cT := 3) eX28_copyTo_15 q1888 q269 q268 q110 rfl rfl H (fun h H => ?_)
  obtain ⟨rfl, rfl, rfl, rfl⟩ := zrt_ok H
  exact V_return (x := ()) eX28_copyTo_18 rfl ⟨rfl, rfl⟩
def o_X28_sort (w : Wd) (F : Nat) (x : Nat) : M Int32 :=
  zrt (1 : Int32)
theorem c_X28_sort {w : Wd} {F : Nat} {x : Nat} {h h1 : Hp} {y : Int32} {c s : Nat} (H : o_X28_sort w F x h = some (y, h1, c, s)) : Con w mX28_sort cX28_sort 0 c s [.ref x] h (Ro (oI y) h1) := by
  unfold o_X28_sort at H
  refine Con.of (ls := [some (va_rf (some x))]) (by decide +kernel) rfl rfl ?_
  refine V_iconst (v := 1) (by decide) eX28_sort_0 ?_
  obtain ⟨rfl, rfl, rfl, rfl⟩ := zrt_ok H
  exact V_ireturn eX28_sort_1 rfl ⟨rfl, rfl⟩
def t_X25_sort (w : Wd) (F : Nat) : Nat → Option (Nat → M Int32) := fun k => match k with
  | 26 => some (fun a => o_X26_sort w F a)
  | 27 => some (fun a => o_X27_sort w F a)
  | 28 => some (fun a => o_X28_sort w F a)
  | _ => none
theorem t_X25_sort_ok {w : Wd} {F : Nat} {k : Nat} {f : Nat → M Int32} (e : t_X25_sort w F k = some f) : (k = 26 ∧ f = fun a => o_X26_sort w F a) ∨ (k = 27 ∧ f = fun a => o_X27_sort w F a) ∨ (k = 28 ∧ f = fun a => o_X28_sort w F a) := by
  unfold t_X25_sort at e
  split at e
  · cases e; exact Or.inl ⟨rfl, rfl⟩
  · cases e; exact Or.inr (Or.inl ⟨rfl, rfl⟩)
  · cases e; exact Or.inr (Or.inr (⟨rfl, rfl⟩))
  · cases e
def t_X25_copyTo (w : Wd) (F : Nat) (p0 : Int32) (p1 : Option Nat) (p2 : Int32) (p3 : Int32) : Nat → Option (Nat → M Unit) := fun k => match k with
  | 26 => some (fun a => o_X26_copyTo w F a p0 p1 p2 p3)
  | 27 => some (fun a => o_X27_copyTo w F a p0 p1 p2 p3)
  | 28 => some (fun a => o_X28_copyTo w F a p0 p1 p2 p3)
  | _ => none
theorem t_X25_copyTo_ok {w : Wd} {F : Nat} {p0 : Int32} {p1 : Option Nat} {p2 : Int32} {p3 : Int32} {k : Nat} {f : Nat → M Unit} (e : t_X25_copyTo w F p0 p1 p2 p3 k = some f) : (k = 26 ∧ f = fun a => o_X26_copyTo w F a p0 p1 p2 p3) ∨ (k = 27 ∧ f = fun a => o_X27_copyTo w F a p0 p1 p2 p3) ∨ (k = 28 ∧ f = fun a => o_X28_copyTo w F a p0 p1 p2 p3) := by
  unfold t_X25_copyTo at e
  split at e
  · cases e; exact Or.inl ⟨rfl, rfl⟩
  · cases e; exact Or.inr (Or.inl ⟨rfl, rfl⟩)
  · cases e; exact Or.inr (Or.inr (⟨rfl, rfl⟩))
  · cases e
def d_X0_copy_14 (w : Wd) (F : Nat) : M Int32 :=
  zrt (-1 : Int32)
def d_X0_copy_42 (w : Wd) (F : Nat) : M Int32 :=
  zrt (-11 : Int32)
def d_X0_copy_100 (w : Wd) (F : Nat) : M Int32 :=
  zrt (-12 : Int32)
def o_X0_copy (w : Wd) (F : Nat) (x : Nat) (a1 : Int32) (a2 : Int32) (a3 : Int32) (a4 : Int32) (a5 : Int32) : M Int32 :=
  zbd (o_X0_isSheet w F a1) fun v1 =>
  zif (v1 = 0) (d_X0_copy_14 w F)
  (zbd (o_X0_isSheet w F a3) fun v2 =>
  zif (v2 = 0) (d_X0_copy_14 w F)
  (zbd (zgR f_X0_sheets (some x)) fun v3 =>
  zbd (zaR v3 a1) fun v4 =>
  zbd (zgR f_X0_sheets (some x)) fun v5 =>
  zbd (zaR v5 a3) fun v6 =>
  zif (v4 = none) (d_X0_copy_42 w F)
  (zif (v6 = none) (d_X0_copy_42 w F)
  (zbd (zvn (t_X25_sort w F) v4) fun v7 =>
  zbd (zvn (t_X25_sort w F) v6) fun v8 =>
  zif (v7 = v8) (zif (a5 < 0) (d_X0_copy_100 w F)
  (zif (a2 < 0) (d_X0_copy_100 w F)
  (zif (a4 < 0) (d_X0_copy_100 w F)
  (zbd (zvn (t_X25_size w F) v4) fun v9 =>
  zif ((v9 - a5) < a2) (d_X0_copy_100 w F)
  (zbd (zvn (t_X25_size w F) v6) fun v10 =>
  zif (a4 ≤ (v10 - a5)) (zbd (zvn (t_X25_copyTo w F a2 v6 a4 a5) v4) fun _ =>
  zrt a5)
  (d_X0_copy_100 w F))))))
  (zrt (-13 : Int32))))))
theorem b_X0_copy_14 {w : Wd} {F : Nat} {h h1 : Hp} {y : Int32} {c s : Nat} (H : d_X0_copy_14 w F h = some (y, h1, c, s)) : V w mX0_copy cX0_copy 2 c s h 14 [none, none, none, none, none, none, none, none] [] (Ro (oI y) h1) := by
  unfold d_X0_copy_14 at H
  refine V_iconst (v := -1) (by decide) eX0_copy_14 ?_
  obtain ⟨rfl, rfl, rfl, rfl⟩ := zrt_ok H
  exact V_ireturn eX0_copy_15 rfl ⟨rfl, rfl⟩
theorem b_X0_copy_42 {w : Wd} {F : Nat} {h h1 : Hp} {y : Int32} {c s : Nat} (H : d_X0_copy_42 w F h = some (y, h1, c, s)) : V w mX0_copy cX0_copy 2 c s h 42 [none, none, none, none, none, none, none, none] [] (Ro (oI y) h1) := by
  unfold d_X0_copy_42 at H
  refine V_bipush (v := -11) (by decide) eX0_copy_42 ?_
  obtain ⟨rfl, rfl, rfl, rfl⟩ := zrt_ok H
  exact V_ireturn eX0_copy_44 rfl ⟨rfl, rfl⟩
theorem b_X0_copy_100 {w : Wd} {F : Nat} {h h1 : Hp} {y : Int32} {c s : Nat} (H : d_X0_copy_100 w F h = some (y, h1, c, s)) : V w mX0_copy cX0_copy 2 c s h 100 [none, none, none, none, none, none, none, none] [] (Ro (oI y) h1) := by
  unfold d_X0_copy_100 at H
  refine V_bipush (v := -12) (by decide) eX0_copy_100 ?_
  obtain ⟨rfl, rfl, rfl, rfl⟩ := zrt_ok H
  exact V_ireturn eX0_copy_102 rfl ⟨rfl, rfl⟩
theorem c_X0_copy {w : Wd} {F : Nat} {x : Nat} {a1 : Int32} {a2 : Int32} {a3 : Int32} {a4 : Int32} {a5 : Int32} {h h1 : Hp} {y : Int32} {c s : Nat} (H : o_X0_copy w F x a1 a2 a3 a4 a5 h = some (y, h1, c, s)) : Con w mX0_copy cX0_copy 2 c s [.ref x, .int a1, .int a2, .int a3, .int a4, .int a5] h (Ro (oI y) h1) := by
  unfold o_X0_copy at H
  refine Con.of (ls := [some (va_rf (some x)), some (.int a1), some (.int a2), some (.int a3), some (.int a4), some (.int a5), none, none]) (by decide +kernel) rfl rfl ?_
  refine V_iload1 eX0_copy_0 ?_
  refine D_callI (pc' := 4) (st := []) H (fun v h' c1 s1 e cb sb k => ?_) (fun v1 h c s H => ?_)
  · exact V_invokestatic eX0_copy_1 lmX0_isSheet q822 q823 (c_X0_isSheet e) (hRet_oI _ _) rfl rfl rfl rfl (kOI k)
  refine V_ifeq eX0_copy_4 (fun q => ?_) (fun q => ?_)
  · have H := zif_t q H
    exact V_fg2 (b_X0_copy_14 H) (zfg_n (zfg_n (zfg_n (zfg_n (zfg_n (zfg_n (zfg_n (zfg_n zfg_e))))))))
  · have H := zif_f q H
    refine V_iload3 eX0_copy_7 ?_
    refine D_callI (pc' := 11) (st := []) H (fun v h' c1 s1 e cb sb k => ?_) (fun v2 h c s H => ?_)
    · exact V_invokestatic eX0_copy_8 lmX0_isSheet q822 q823 (c_X0_isSheet e) (hRet_oI _ _) rfl rfl rfl rfl (kOI k)
    refine V_ifne eX0_copy_11 (fun q => ?_) (fun q => ?_)
    · have H := zif_f q H
      refine V_aload0 eX0_copy_16 (zrf_rf _) ?_
      refine D_gR eX0_copy_17 fq_X0_179_tR H (fun v3 H => ?_)
      refine V_iload1 eX0_copy_20 ?_
      refine D_aaload eX0_copy_21 H (fun v4 H => ?_)
      refine V_astore6 rfl eX0_copy_22 rfl (zrf_rf _) ?_
      refine V_aload0 eX0_copy_24 (zrf_rf _) ?_
      refine D_gR eX0_copy_25 fq_X0_179_tR H (fun v5 H => ?_)
      refine V_iload3 eX0_copy_28 ?_
      refine D_aaload eX0_copy_29 H (fun v6 H => ?_)
      refine V_astore7 (znl_rf _) eX0_copy_30 rfl (zrf_rf _) ?_
      refine V_aload6 eX0_copy_32 (zrf_rf _) ?_
      refine V_ifnull eX0_copy_34 (fun q => ?_) (fun a q => ?_)
      · have H := zif_t q H
        exact V_fg2 (b_X0_copy_42 H) (zfg_n (zfg_n (zfg_n (zfg_n (zfg_n (zfg_n (zfg_n (zfg_n zfg_e))))))))
      · have H := zif_f (zsn q) H
        refine V_aload7 eX0_copy_37 (zrf_rf _) ?_
        refine V_ifnonnull eX0_copy_39 (fun a q => ?_) (fun q => ?_)
        · have H := zif_f (zsn q) H
          refine V_aload6 eX0_copy_45 (zrf_rf _) ?_
          refine D_callI (pc' := 50) (st := []) H (fun v h' c1 s1 e cb sb k => ?_) (fun v7 h c s H => ?_)
          · obtain ⟨a, f, hr, ha, ht, e9⟩ := zvn_ok e
            cases hr
            rcases t_X25_sort_ok ht with ⟨hk, hf⟩ | ⟨hk, hf⟩ | ⟨hk, hf⟩
            · subst hf; exact V_invokevirtualU (k := 26) eX0_copy_47 lmX26_sort (⟨"LinesPromised$Sheet", q1862, q1864, q1865, q1866, q139, ⟨by decide, by decide⟩, rfl, Or.inr (Or.inr q1863)⟩) (by decide) ha hk (c_X26_sort e9) (hRet_oI _ _) rfl rfl rfl rfl (kOI k)
            · subst hf; exact V_invokevirtualU (k := 27) eX0_copy_47 lmX27_sort (⟨"LinesPromised$Sheet", q1862, q1864, q1868, q1869, q140, ⟨by decide, by decide⟩, rfl, Or.inr (Or.inr q1863)⟩) (by decide) ha hk (c_X27_sort e9) (hRet_oI _ _) rfl rfl rfl rfl (kOI k)
            · subst hf; exact V_invokevirtualU (k := 28) eX0_copy_47 lmX28_sort (⟨"LinesPromised$Sheet", q1862, q1864, q1871, q1872, q141, ⟨by decide, by decide⟩, rfl, Or.inr (Or.inr q1863)⟩) (by decide) ha hk (c_X28_sort e9) (hRet_oI _ _) rfl rfl rfl rfl (kOI k)
          refine V_aload7 eX0_copy_50 (zrf_rf _) ?_
          refine D_callI (pc' := 55) (st := [.int v7]) H (fun v h' c1 s1 e cb sb k => ?_) (fun v8 h c s H => ?_)
          · obtain ⟨a, f, hr, ha, ht, e9⟩ := zvn_ok e
            cases hr
            rcases t_X25_sort_ok ht with ⟨hk, hf⟩ | ⟨hk, hf⟩ | ⟨hk, hf⟩
            · subst hf; exact V_invokevirtualU (k := 26) eX0_copy_52 lmX26_sort (⟨"LinesPromised$Sheet", q1862, q1864, q1865, q1866, q139, ⟨by decide, by decide⟩, rfl, Or.inr (Or.inr q1863)⟩) (by decide) ha hk (c_X26_sort e9) (hRet_oI _ _) rfl rfl rfl rfl (kOI k)
            · subst hf; exact V_invokevirtualU (k := 27) eX0_copy_52 lmX27_sort (⟨"LinesPromised$Sheet", q1862, q1864, q1868, q1869, q140, ⟨by decide, by decide⟩, rfl, Or.inr (Or.inr q1863)⟩) (by decide) ha hk (c_X27_sort e9) (hRet_oI _ _) rfl rfl rfl rfl (kOI k)
            · subst hf; exact V_invokevirtualU (k := 28) eX0_copy_52 lmX28_sort (⟨"LinesPromised$Sheet", q1862, q1864, q1871, q1872, q141, ⟨by decide, by decide⟩, rfl, Or.inr (Or.inr q1863)⟩) (by decide) ha hk (c_X28_sort e9) (hRet_oI _ _) rfl rfl rfl rfl (kOI k)
          refine V_if_icmpeq eX0_copy_55 (fun q => ?_) (fun q => ?_)
          · have H := zif_t q H
            refine V_iload5 eX0_copy_61 ?_
            refine V_iflt eX0_copy_63 (fun q => ?_) (fun q => ?_)
            · have H := zif_t q H
              exact V_fg2 (b_X0_copy_100 H) (zfg_n (zfg_n (zfg_n (zfg_n (zfg_n (zfg_n (zfg_n (zfg_n zfg_e))))))))
            · have H := zif_f q H
              refine V_iload2 eX0_copy_66 ?_
              refine V_iflt eX0_copy_67 (fun q => ?_) (fun q => ?_)
              · have H := zif_t q H
                exact V_fg2 (b_X0_copy_100 H) (zfg_n (zfg_n (zfg_n (zfg_n (zfg_n (zfg_n (zfg_n (zfg_n zfg_e))))))))
              · have H := zif_f q H
                refine V_iload4 eX0_copy_70 ?_
                refine V_iflt eX0_copy_72 (fun q => ?_) (fun q => ?_)
                · have H := zif_t q H
                  exact V_fg2 (b_X0_copy_100 H) (zfg_n (zfg_n (zfg_n (zfg_n (zfg_n (zfg_n (zfg_n (zfg_n zfg_e))))))))
                · have H := zif_f q H
                  refine V_iload2 eX0_copy_75 ?_
                  refine V_aload6 eX0_copy_76 (zrf_rf _) ?_
                  refine D_callI (pc' := 81) (st := [.int a2]) H (fun v h' c1 s1 e cb sb k => ?_) (fun v9 h c s H => ?_)
                  · obtain ⟨a, f, hr, ha, ht, e9⟩ := zvn_ok e
                    cases hr
                    rcases t_X25_size_ok ht with ⟨hk, hf⟩ | ⟨hk, hf⟩ | ⟨hk, hf⟩
                    · subst hf; exact V_invokevirtualU (k := 26) eX0_copy_78 lmX26_size (⟨"LinesPromised$Sheet", q876, q878, q879, q880, q139, ⟨by decide, by decide⟩, rfl, Or.inr (Or.inr q877)⟩) (by decide) ha hk (c_X26_size e9) (hRet_oI _ _) rfl rfl rfl rfl (kOI k)
                    · subst hf; exact V_invokevirtualU (k := 27) eX0_copy_78 lmX27_size (⟨"LinesPromised$Sheet", q876, q878, q882, q883, q140, ⟨by decide, by decide⟩, rfl, Or.inr (Or.inr q877)⟩) (by decide) ha hk (c_X27_size e9) (hRet_oI _ _) rfl rfl rfl rfl (kOI k)
                    · subst hf; exact V_invokevirtualU (k := 28) eX0_copy_78 lmX28_size (⟨"LinesPromised$Sheet", q876, q878, q885, q886, q141, ⟨by decide, by decide⟩, rfl, Or.inr (Or.inr q877)⟩) (by decide) ha hk (c_X28_size e9) (hRet_oI _ _) rfl rfl rfl rfl (kOI k)
                  refine V_iload5 eX0_copy_81 ?_
                  refine V_isub eX0_copy_83 ?_
                  refine V_if_icmpgt eX0_copy_84 (fun q => ?_) (fun q => ?_)
                  · have H := zif_t q H
                    exact V_fg2 (b_X0_copy_100 H) (zfg_n (zfg_n (zfg_n (zfg_n (zfg_n (zfg_n (zfg_n (zfg_n zfg_e))))))))
                  · have H := zif_f q H
                    refine V_iload4 eX0_copy_87 ?_
                    refine V_aload7 eX0_copy_89 (zrf_rf _) ?_
                    refine D_callI (pc' := 94) (st := [.int a4]) H (fun v h' c1 s1 e cb sb k => ?_) (fun v10 h c s H => ?_)
                    · obtain ⟨a, f, hr, ha, ht, e9⟩ := zvn_ok e
                      cases hr
                      rcases t_X25_size_ok ht with ⟨hk, hf⟩ | ⟨hk, hf⟩ | ⟨hk, hf⟩
                      · subst hf; exact V_invokevirtualU (k := 26) eX0_copy_91 lmX26_size (⟨"LinesPromised$Sheet", q876, q878, q879, q880, q139, ⟨by decide, by decide⟩, rfl, Or.inr (Or.inr q877)⟩) (by decide) ha hk (c_X26_size e9) (hRet_oI _ _) rfl rfl rfl rfl (kOI k)
                      · subst hf; exact V_invokevirtualU (k := 27) eX0_copy_91 lmX27_size (⟨"LinesPromised$Sheet", q876, q878, q882, q883, q140, ⟨by decide, by decide⟩, rfl, Or.inr (Or.inr q877)⟩) (by decide) ha hk (c_X27_size e9) (hRet_oI _ _) rfl rfl rfl rfl (kOI k)
                      · subst hf; exact V_invokevirtualU (k := 28) eX0_copy_91 lmX28_size (⟨"LinesPromised$Sheet", q876, q878, q885, q886, q141, ⟨by decide, by decide⟩, rfl, Or.inr (Or.inr q877)⟩) (by decide) ha hk (c_X28_size e9) (hRet_oI _ _) rfl rfl rfl rfl (kOI k)
                    refine V_iload5 eX0_copy_94 ?_
                    refine V_isub eX0_copy_96 ?_
                    refine V_if_icmple eX0_copy_97 (fun q => ?_) (fun q => ?_)
                    · have H := zif_t q H
                      refine V_aload6 eX0_copy_103 (zrf_rf _) ?_
                      refine V_iload2 eX0_copy_105 ?_
                      refine V_aload7 eX0_copy_106 (zrf_rf _) ?_
                      refine V_iload4 eX0_copy_108 ?_
                      refine V_iload5 eX0_copy_110 ?_
                      refine D_callU (pc' := 115) (st := []) H (fun v h' c1 s1 e cb sb k => ?_) (fun v11 h c s H => ?_)
                      · obtain ⟨a, f, hr, ha, ht, e9⟩ := zvn_ok e
                        cases hr
                        rcases t_X25_copyTo_ok ht with ⟨hk, hf⟩ | ⟨hk, hf⟩ | ⟨hk, hf⟩
                        · subst hf; exact V_invokevirtualU (k := 26) eX0_copy_112 lmX26_copyTo (⟨"LinesPromised$Sheet", q1874, q1876, q1877, q1878, q139, ⟨by decide, by decide⟩, rfl, Or.inr (Or.inr q1875)⟩) (by decide) ha hk (c_X26_copyTo e9) (hRet_oU _ _) rfl rfl rfl rfl (kOU k)
                        · subst hf; exact V_invokevirtualU (k := 27) eX0_copy_112 lmX27_copyTo (⟨"LinesPromised$Sheet", q1874, q1876, q1881, q1882, q140, ⟨by decide, by decide⟩, rfl, Or.inr (Or.inr q1875)⟩) (by decide) ha hk (c_X27_copyTo e9) (hRet_oU _ _) rfl rfl rfl rfl (kOU k)
                        · subst hf; exact V_invokevirtualU (k := 28) eX0_copy_112 lmX28_copyTo (⟨"LinesPromised$Sheet", q1874, q1876, q1885, q1886, q141, ⟨by decide, by decide⟩, rfl, Or.inr (Or.inr q1875)⟩) (by decide) ha hk (c_X28_copyTo e9) (hRet_oU _ _) rfl rfl rfl rfl (kOU k)
                      refine V_iload5 eX0_copy_115 ?_
                      obtain ⟨rfl, rfl, rfl, rfl⟩ := zrt_ok H
                      exact V_ireturn eX0_copy_117 rfl ⟨rfl, rfl⟩
                    · have H := zif_f q H
                      exact V_fg2 (b_X0_copy_100 H) (zfg_n (zfg_n (zfg_n (zfg_n (zfg_n (zfg_n (zfg_n (zfg_n zfg_e))))))))
          · have H := zif_f q H
            refine V_bipush (v := -13) (by decide) eX0_copy_58 ?_
            obtain ⟨rfl, rfl, rfl, rfl⟩ := zrt_ok H
            exact V_ireturn eX0_copy_60 rfl ⟨rfl, rfl⟩
        · have H := zif_t q H
          exact V_fg2 (b_X0_copy_42 H) (zfg_n (zfg_n (zfg_n (zfg_n (zfg_n (zfg_n (zfg_n (zfg_n zfg_e))))))))
    · have H := zif_t q H
      exact V_fg2 (b_X0_copy_14 H) (zfg_n (zfg_n (zfg_n (zfg_n (zfg_n (zfg_n (zfg_n (zfg_n zfg_e))))))))
