set_option maxRecDepth 100000
def f_X6_word : Nat → Option Nat := fun k => match k with
  | 6 => some 0
  | _ => none
theorem fq_X6_7_tN : FQ RX6 7 f_X6_word tN := by
  intro k j e
  unfold f_X6_word at e
  split at e
  · cases e; exact ⟨fl_X6_7_6, rfl⟩
  · cases e
theorem fn_X6_init_7 : FN mX6_init 7 f_X6_word := by
  intro k j e
  unfold f_X6_word at e
  split at e
  · cases e; exact Or.inr ⟨rfl, rfl, rfl, _, q510, rfl⟩
  · cases e
def f_X6_number : Nat → Option Nat := fun k => match k with
  | 6 => some 1
  | _ => none
theorem fq_X6_13_tN : FQ RX6 13 f_X6_number tN := by
  intro k j e
  unfold f_X6_number at e
  split at e
  · cases e; exact ⟨fl_X6_13_6, rfl⟩
  · cases e
theorem fn_X6_init_13 : FN mX6_init 13 f_X6_number := by
  intro k j e
  unfold f_X6_number at e
  split at e
  · cases e; exact Or.inr ⟨rfl, rfl, rfl, _, q512, rfl⟩
  · cases e
def f_X6_test : Nat → Option Nat := fun k => match k with
  | 6 => some 2
  | _ => none
theorem fq_X6_16_tR : FQ RX6 16 f_X6_test tR := by
  intro k j e
  unfold f_X6_test at e
  split at e
  · cases e; exact ⟨fl_X6_16_6, Or.inl ⟨_, rfl⟩⟩
  · cases e
theorem fn_X6_init_16 : FN mX6_init 16 f_X6_test := by
  intro k j e
  unfold f_X6_test at e
  split at e
  · cases e; exact Or.inr ⟨rfl, rfl, rfl, _, q514, rfl⟩
  · cases e
def o_X6_init (w : Wd) (F : Nat) (x : Nat) (a1 : Int32) (a2 : Int32) (a3 : Option Nat) : M Unit :=
  zbd (zpI f_X6_word (some x) a1) fun _ =>
  zbd (zpI f_X6_number (some x) a2) fun _ =>
  zbd (zpR f_X6_test (some x) a3) fun _ =>
  zrt ()
theorem c_X6_init {w : Wd} {F : Nat} {x : Nat} {a1 : Int32} {a2 : Int32} {a3 : Option Nat} {h h1 : Hp} {y : Unit} {c s : Nat} (H : o_X6_init w F x a1 a2 a3 h = some (y, h1, c, s)) : Con w mX6_init cX6_init 1 c s [.ref x, .int a1, .int a2, va_rf a3] h (Ro (oU y) h1) := by
  unfold o_X6_init at H
  refine Con.of (ls := [some (va_rf (some x)), some (.int a1), some (.int a2), some (va_rf a3)]) (by decide +kernel) (by simp only [zsl_r, zsl_i, zsl_l, zsl_n, zsl_a]; rfl) (by simp only [zar_r, zar_i, zar_l, zar_n, zar_a]; rfl) ?_
  refine V_aload0 eX6_init_0 (zrf_rf _) ?_
  refine V_objectinit eX6_init_1 q509 q180 q181 rfl rfl ?_
  refine V_aload0 eX6_init_4 (zrf_rf _) ?_
  refine V_iload1 eX6_init_5 ?_
  refine D_pI eX6_init_6 fq_X6_7_tN fn_X6_init_7 H (fun h H => ?_)
  refine V_aload0 eX6_init_9 (zrf_rf _) ?_
  refine V_iload2 eX6_init_10 ?_
  refine D_pI eX6_init_11 fq_X6_13_tN fn_X6_init_13 H (fun h H => ?_)
  refine V_aload0 eX6_init_14 (zrf_rf _) ?_
  refine V_aload3 eX6_init_15 (zrf_rf _) ?_
  refine D_pR eX6_init_16 fq_X6_16_tR fn_X6_init_16 H (fun h H => ?_)
  obtain ⟨rfl, rfl, rfl, rfl⟩ := zrt_ok H
  exact V_return (x := ()) eX6_init_19 rfl ⟨rfl, rfl⟩
theorem fn_X1_clause_24 : FN mX1_clause 24 f_X1_at := by
  intro k j e
  unfold f_X1_at at e
  split at e
  · cases e; exact Or.inl rfl
  · cases e
theorem fn_X1_clause_61 : FN mX1_clause 61 f_X1_open := by
  intro k j e
  unfold f_X1_open at e
  split at e
  · cases e; exact Or.inl rfl
  · cases e
def d_X1_clause_113 (w : Wd) (F : Nat) (s0 : Option Nat) (s1 : Option Nat) (s2 : Int32) (s3 : Int32) : M (Option Nat ⊕ Nat) :=
  zbd (znn s1 (fun a => o_X6_init w F a s2 s3 none)) fun _ =>
  zrt (Sum.inl s0)
def d_X1_clause_79 (w : Wd) (F : Nat) (x : Nat) (a1 : Int32) : M (Option Nat ⊕ Nat) :=
  zbd (znw 6 0 3) fun n5 =>
  zbd (zgR f_X1_this_0 (some x)) fun v6 =>
  zbd (zgR f_X0_tape v6) fun v7 =>
  zbd (zgI f_X1_at (some x)) fun v8 =>
  zbd (zpI f_X1_at (some x) (v8 + (1 : Int32))) fun _ =>
  zbd (zaI 2 v7 v8) fun v9 =>
  zif (v9 = (121 : Int32)) (d_X1_clause_113 w F n5 n5 a1 (1 : Int32))
  (d_X1_clause_113 w F n5 n5 a1 (0 : Int32))
def o_X1_clause (w : Wd) (F : Nat) (x : Nat) : M (Option Nat ⊕ Nat) :=
  zbd (zv1 1 (some x) (fun a => o_X1_word w F a)) fun r => zsm r (fun v2 =>
  zif (v2 = (6 : Int32)) (zbd (zpI f_X1_open (some x) (0 : Int32)) fun _ =>
  zbd (znw 6 0 3) fun n14 =>
  zbd (zv1 1 (some x) (fun a => o_X1_either w F (z_X1_fact w F 7) a)) fun r => zsm r (fun v16 =>
  zbd (znn n14 (fun a => o_X6_init w F a v2 (1 : Int32) v16)) fun _ =>
  zrt (Sum.inl n14))
  (fun t17 => zrt (Sum.inr t17)))
  (zif (v2 = (5 : Int32)) (zbd (zv1 1 (some x) (fun a => o_X1_next w F a)) fun v4 =>
  zif (v4 = (121 : Int32)) (d_X1_clause_79 w F x v2)
  (zbd (zv1 1 (some x) (fun a => o_X1_next w F a)) fun v5 =>
  zif (v5 = (110 : Int32)) (d_X1_clause_79 w F x v2)
  (zbd (znw 5 0 7) fun n6 =>
  zbd (zgI f_X1_at (some x)) fun v7 =>
  zbd (znn n6 (fun a => o_X5_init w F a v7)) fun _ =>
  znn n6 (fun a => zrt (Sum.inr a)))))
  (zbd (znw 6 0 3) fun n9 =>
  zbd (zv1 1 (some x) (fun a => o_X1_number w F a)) fun r => zsm r (fun v11 =>
  zbd (znn n9 (fun a => o_X6_init w F a v2 v11 none)) fun _ =>
  zrt (Sum.inl n9))
  (fun t12 => zrt (Sum.inr t12)))))
  (fun t3 => zrt (Sum.inr t3))
theorem b_X1_clause_113 {w : Wd} {F : Nat} {s0 : Option Nat} {s1 : Option Nat} {s2 : Int32} {s3 : Int32} {h h1 : Hp} {y : (Option Nat ⊕ Nat)} {c s : Nat} (H : d_X1_clause_113 w F s0 s1 s2 s3 h = some (y, h1, c, s)) : V w mX1_clause cX1_clause 241 c s h 113 [none, none] [.int s3, .int s2, va_rf s1, va_rf s0] (Ro (oX oR y) h1) := by
  unfold d_X1_clause_113 at H
  refine D_null eX1_clause_113 ?_
  refine D_callU (pc' := 117) (st := [va_rf s0]) H (fun v h' c1 s1 e cb sb k => ?_) (fun v10 h c s H => ?_)
  · obtain ⟨a, hr, e9⟩ := znn_ok e
    cases hr
    exact V_invokeinit eX1_clause_114 lmX6_init rfl rfl q506 q507 (c_X6_init e9) (hRet_oU _ _) rfl rfl rfl (by simp only [List.map_cons, List.map_nil, zcr]; rfl) (kOU k)
  obtain ⟨rfl, rfl, rfl, rfl⟩ := zrt_ok H
  exact V_areturn eX1_clause_117 rfl (Or.inl ⟨_, rfl⟩) ⟨rfl, rfl⟩
theorem b_X1_clause_79 {w : Wd} {F : Nat} {x : Nat} {a1 : Int32} {h h1 : Hp} {y : (Option Nat ⊕ Nat)} {c s : Nat} (H : d_X1_clause_79 w F x a1 h = some (y, h1, c, s)) : V w mX1_clause cX1_clause 241 c s h 79 [some (va_rf (some x)), some (.int a1)] [] (Ro (oX oR y) h1) := by
  unfold d_X1_clause_79 at H
  refine D_new (g := 0) eX1_clause_79 nl_X1_101 rfl H (fun n5 h c s H => ?_)
  refine V_dup (zcr _) eX1_clause_82 ?_
  refine V_iload1 eX1_clause_83 ?_
  refine V_aload0 eX1_clause_84 (zrf_rf _) ?_
  refine D_gR eX1_clause_85 fq_X1_3_tR H (fun v6 H => ?_)
  refine D_gR eX1_clause_88 fq_X1_31_tR H (fun v7 H => ?_)
  refine V_aload0 eX1_clause_91 (zrf_rf _) ?_
  refine V_dup (zcr _) eX1_clause_92 ?_
  refine D_gI eX1_clause_93 fq_X1_24_tI H (fun v8 H => ?_)
  refine V_dup_x1 rfl (zcr _) eX1_clause_96 ?_
  refine V_iconst (v := 1) (by decide) eX1_clause_97 ?_
  refine V_iadd eX1_clause_98 ?_
  refine D_pI eX1_clause_99 fq_X1_24_tN fn_X1_clause_24 H (fun h H => ?_)
  refine D_baload eX1_clause_102 H (fun v9 H => ?_)
  refine V_bipush (v := 121) (by decide) eX1_clause_103 ?_
  refine V_if_icmpne eX1_clause_105 (fun q => ?_) (fun q => ?_)
  · have H := zif_f q H
    refine V_iconst (v := 0) (by decide) eX1_clause_112 ?_
    exact V_fg2 (b_X1_clause_113 H) (zfg_n (zfg_n zfg_e))
  · have H := zif_t q H
    refine V_iconst (v := 1) (by decide) eX1_clause_108 ?_
    refine V_goto eX1_clause_109 ?_
    exact V_fg2 (b_X1_clause_113 H) (zfg_n (zfg_n zfg_e))
theorem c_X1_clause {w : Wd} {F : Nat} {x : Nat} {h h1 : Hp} {y : (Option Nat ⊕ Nat)} {c s : Nat} (H : o_X1_clause w F x h = some (y, h1, c, s)) : Con w mX1_clause cX1_clause 241 c s [.ref x] h (Ro (oX oR y) h1) := by
  unfold o_X1_clause at H
  refine Con.of (ls := [some (va_rf (some x)), none]) (by decide +kernel) rfl rfl ?_
  refine V_aload0 eX1_clause_0 (zrf_rf _) ?_
  refine D_callXI (pc' := 4) (st := []) H (fun v h' c1 s1 e cb sb k => ?_) (fun t h' c1 s1 e cb sb k => ?_) (fun v2 h c s H => ?_) (fun t3 h c s H => ?_)
  · obtain ⟨a, hr, ha, hk, e9⟩ := zv1_ok e
    cases hr
    exact V_invokevirtual (k := 1) eX1_clause_1 lmX1_word q344 q346 rfl rfl qs4 ha hk (c_X1_word e9) (hRet_oI _ _) rfl rfl rfl rfl (kOI k)
  · obtain ⟨a, hr, ha, hk, e9⟩ := zv1_ok e
    cases hr
    exact V_invokevirtualX (k := 1) eX1_clause_1 lmX1_word q344 q346 rfl rfl qs4 ha hk (c_X1_word e9) rfl rfl rfl rfl k
  · skip
    refine V_istore1 (znl_rf _) eX1_clause_4 rfl ?_
    refine V_iload1 eX1_clause_5 ?_
    refine V_bipush (v := 6) (by decide) eX1_clause_6 ?_
    refine V_if_icmpne eX1_clause_8 (fun q => ?_) (fun q => ?_)
    · have H := zif_f q H
      refine V_iload1 eX1_clause_30 ?_
      refine V_iconst (v := 5) (by decide) eX1_clause_31 ?_
      refine V_if_icmpeq eX1_clause_32 (fun q => ?_) (fun q => ?_)
      · have H := zif_t q H
        refine V_aload0 eX1_clause_49 (zrf_rf _) ?_
        refine D_callI (pc' := 53) (st := []) H (fun v h' c1 s1 e cb sb k => ?_) (fun v4 h c s H => ?_)
        · obtain ⟨a, hr, ha, hk, e9⟩ := zv1_ok e
          cases hr
          exact V_invokevirtual (k := 1) eX1_clause_50 lmX1_next q357 q359 rfl rfl qs7 ha hk (c_X1_next e9) (hRet_oI _ _) rfl rfl rfl rfl (kOI k)
        refine V_bipush (v := 121) (by decide) eX1_clause_53 ?_
        refine V_if_icmpeq eX1_clause_55 (fun q => ?_) (fun q => ?_)
        · have H := zif_t q H
          exact V_fg2 (b_X1_clause_79 H) (zfg_k (zfg_k zfg_e))
        · have H := zif_f q H
          refine V_aload0 eX1_clause_58 (zrf_rf _) ?_
          refine D_callI (pc' := 62) (st := []) H (fun v h' c1 s1 e cb sb k => ?_) (fun v5 h c s H => ?_)
          · obtain ⟨a, hr, ha, hk, e9⟩ := zv1_ok e
            cases hr
            exact V_invokevirtual (k := 1) eX1_clause_59 lmX1_next q357 q359 rfl rfl qs7 ha hk (c_X1_next e9) (hRet_oI _ _) rfl rfl rfl rfl (kOI k)
          refine V_bipush (v := 110) (by decide) eX1_clause_62 ?_
          refine V_if_icmpeq eX1_clause_64 (fun q => ?_) (fun q => ?_)
          · have H := zif_t q H
            exact V_fg2 (b_X1_clause_79 H) (zfg_k (zfg_k zfg_e))
          · have H := zif_f q H
            refine D_new (g := 0) eX1_clause_67 nl_X1_39 rfl H (fun n6 h c s H => ?_)
            refine V_dup (zcr _) eX1_clause_70 ?_
            refine V_aload0 eX1_clause_71 (zrf_rf _) ?_
            refine D_gI eX1_clause_72 fq_X1_24_tI H (fun v7 H => ?_)
            refine D_callU (pc' := 78) (st := [va_rf n6]) H (fun v h' c1 s1 e cb sb k => ?_) (fun v8 h c s H => ?_)
            · obtain ⟨a, hr, e9⟩ := znn_ok e
              cases hr
              exact V_invokeinit eX1_clause_75 lmX5_init rfl rfl q399 q400 (c_X5_init e9) (hRet_oU _ _) rfl rfl rfl (by simp only [List.map_cons, List.map_nil, zcr]; rfl) (kOU k)
            obtain ⟨a9, hr9, H⟩ := znn_ok H
            cases hr9
            obtain ⟨rfl, rfl, rfl, rfl⟩ := zrt_ok H
            exact V_athrow eX1_clause_78 rfl ⟨rfl, rfl⟩
      · have H := zif_f q H
        refine D_new (g := 0) eX1_clause_35 nl_X1_101 rfl H (fun n9 h c s H => ?_)
        refine V_dup (zcr _) eX1_clause_38 ?_
        refine V_iload1 eX1_clause_39 ?_
        refine V_aload0 eX1_clause_40 (zrf_rf _) ?_
        refine D_callXI (pc' := 44) (st := [.int v2, va_rf n9, va_rf n9]) H (fun v h' c1 s1 e cb sb k => ?_) (fun t h' c1 s1 e cb sb k => ?_) (fun v11 h c s H => ?_) (fun t12 h c s H => ?_)
        · obtain ⟨a, hr, ha, hk, e9⟩ := zv1_ok e
          cases hr
          exact V_invokevirtual (k := 1) eX1_clause_41 lmX1_number q472 q474 rfl rfl qs13 ha hk (c_X1_number e9) (hRet_oI _ _) rfl rfl rfl (by simp only [List.map_cons, List.map_nil, zcr]; rfl) (kOI k)
        · obtain ⟨a, hr, ha, hk, e9⟩ := zv1_ok e
          cases hr
          exact V_invokevirtualX (k := 1) eX1_clause_41 lmX1_number q472 q474 rfl rfl qs13 ha hk (c_X1_number e9) rfl rfl rfl (by simp only [List.map_cons, List.map_nil, zcr]; rfl) k
        · skip
          refine D_null eX1_clause_44 ?_
          refine D_callU (pc' := 48) (st := [va_rf n9]) H (fun v h' c1 s1 e cb sb k => ?_) (fun v13 h c s H => ?_)
          · obtain ⟨a, hr, e9⟩ := znn_ok e
            cases hr
            exact V_invokeinit eX1_clause_45 lmX6_init rfl rfl q506 q507 (c_X6_init e9) (hRet_oU _ _) rfl rfl rfl (by simp only [List.map_cons, List.map_nil, zcr]; rfl) (kOU k)
          obtain ⟨rfl, rfl, rfl, rfl⟩ := zrt_ok H
          exact V_areturn eX1_clause_48 rfl (Or.inl ⟨_, rfl⟩) ⟨rfl, rfl⟩
        · obtain ⟨rfl, rfl, rfl, rfl⟩ := zrt_ok H
          exact VX_out rfl ⟨rfl, rfl⟩
    · have H := zif_t q H
      refine V_aload0 eX1_clause_11 (zrf_rf _) ?_
      refine V_iconst (v := 0) (by decide) eX1_clause_12 ?_
      refine D_pI eX1_clause_13 fq_X1_61_tN fn_X1_clause_61 H (fun h H => ?_)
      refine D_new (g := 0) eX1_clause_16 nl_X1_101 rfl H (fun n14 h c s H => ?_)
      refine V_dup (zcr _) eX1_clause_19 ?_
      refine V_iload1 eX1_clause_20 ?_
      refine V_iconst (v := 1) (by decide) eX1_clause_21 ?_
      refine V_aload0 eX1_clause_22 (zrf_rf _) ?_
      refine D_callXR (pc' := 26) (st := [.int (1 : Int32), .int v2, va_rf n14, va_rf n14]) H (fun v h' c1 s1 e cb sb k => ?_) (fun t h' c1 s1 e cb sb k => ?_) (fun v16 h c s H => ?_) (fun t17 h c s H => ?_)
      · obtain ⟨a, hr, ha, hk, e9⟩ := zv1_ok e
        cases hr
        exact V_invokevirtual (k := 1) eX1_clause_23 lmX1_either q427 q429 rfl rfl qs9 ha hk (c_X1_either (k0 := 0) (cz_X1_fact 7) e9) (hRet_oR _ _) rfl rfl rfl (by simp only [List.map_cons, List.map_nil, zcr]; rfl) (kOR k)
      · obtain ⟨a, hr, ha, hk, e9⟩ := zv1_ok e
        cases hr
        exact V_invokevirtualX (k := 1) eX1_clause_23 lmX1_either q427 q429 rfl rfl qs9 ha hk (c_X1_either (k0 := 0) (cz_X1_fact 7) e9) rfl rfl rfl (by simp only [List.map_cons, List.map_nil, zcr]; rfl) k
      · skip
        refine D_callU (pc' := 29) (st := [va_rf n14]) H (fun v h' c1 s1 e cb sb k => ?_) (fun v18 h c s H => ?_)
        · obtain ⟨a, hr, e9⟩ := znn_ok e
          cases hr
          exact V_invokeinit eX1_clause_26 lmX6_init rfl rfl q506 q507 (c_X6_init e9) (hRet_oU _ _) rfl rfl rfl (by simp only [List.map_cons, List.map_nil, zcr]; rfl) (kOU k)
        obtain ⟨rfl, rfl, rfl, rfl⟩ := zrt_ok H
        exact V_areturn eX1_clause_29 rfl (Or.inl ⟨_, rfl⟩) ⟨rfl, rfl⟩
      · obtain ⟨rfl, rfl, rfl, rfl⟩ := zrt_ok H
        exact VX_out rfl ⟨rfl, rfl⟩
  · obtain ⟨rfl, rfl, rfl, rfl⟩ := zrt_ok H
    exact VX_out rfl ⟨rfl, rfl⟩
def f_X4_clauses : Nat → Option Nat := fun k => match k with
  | 4 => some 1
  | _ => none
theorem fq_X4_10_tR : FQ RX4 10 f_X4_clauses tR := by
  intro k j e
  unfold f_X4_clauses at e
  split at e
  · cases e; exact ⟨fl_X4_10_4, Or.inl ⟨_, rfl⟩⟩
  · cases e
theorem fn_X4_init_10 : FN mX4_init 10 f_X4_clauses := by
  intro k j e
  unfold f_X4_clauses at e
  split at e
  · cases e; exact Or.inr ⟨rfl, rfl, rfl, _, q331, rfl⟩
  · cases e
def f_X4_day : Nat → Option Nat := fun k => match k with
  | 4 => some 0
  | _ => none
theorem fq_X4_16_tN : FQ RX4 16 f_X4_day tN := by
  intro k j e
  unfold f_X4_day at e
  split at e
  · cases e; exact ⟨fl_X4_16_4, rfl⟩
  · cases e
theorem fn_X4_init_16 : FN mX4_init 16 f_X4_day := by
  intro k j e
  unfold f_X4_day at e
  split at e
  · cases e; exact Or.inr ⟨rfl, rfl, rfl, _, q329, rfl⟩
  · cases e
def o_X4_init (w : Wd) (F : Nat) (x : Nat) (a1 : Int32) : M Unit :=
  zbd (znw 30 (zgo (some x) 4) 3) fun n2 =>
  zbd (znn n2 (fun a => o_J2_init w F a)) fun _ =>
  zbd (zpR f_X4_clauses (some x) n2) fun _ =>
  zbd (zpI f_X4_day (some x) a1) fun _ =>
  zrt ()
theorem c_X4_init {w : Wd} {F : Nat} {x : Nat} {a1 : Int32} {h h1 : Hp} {y : Unit} {c s : Nat} (H : o_X4_init w F x a1 h = some (y, h1, c, s)) : Con w mX4_init cX4_init 4 c s [.ref x, .int a1] h (Ro (oU y) h1) := by
  unfold o_X4_init at H
  refine Con.of (ls := [some (va_rf (some x)), some (.int a1)]) (by decide +kernel) rfl rfl ?_
  refine V_aload0 eX4_init_0 (zrf_rf _) ?_
  refine V_objectinit eX4_init_1 q305 q180 q181 rfl rfl ?_
  refine V_aload0 eX4_init_4 (zrf_rf _) ?_
  refine D_new (g := (zgo (some x) 4)) eX4_init_5 nl_X4_7 rfl H (fun n2 h c s H => ?_)
  refine V_dup (zcr _) eX4_init_8 ?_
  refine D_callU (pc' := 12) (st := [va_rf n2, va_rf (some x)]) H (fun v h' c1 s1 e cb sb k => ?_) (fun v3 h c s H => ?_)
  · obtain ⟨a, hr, e9⟩ := znn_ok e
    cases hr
    exact V_invokeinit eX4_init_9 lmJ2_init rfl rfl q307 q308 (c_J2_init e9) (hRet_oU _ _) rfl rfl rfl (by simp only [List.map_cons, List.map_nil, zcr]; rfl) (kOU k)
  refine D_pR eX4_init_12 fq_X4_10_tR fn_X4_init_10 H (fun h H => ?_)
  refine V_aload0 eX4_init_15 (zrf_rf _) ?_
  refine V_iload1 eX4_init_16 ?_
  refine D_pI eX4_init_17 fq_X4_16_tN fn_X4_init_16 H (fun h H => ?_)
  obtain ⟨rfl, rfl, rfl, rfl⟩ := zrt_ok H
  exact V_return (x := ()) eX4_init_20 rfl ⟨rfl, rfl⟩
theorem fn_X1_order_24 : FN mX1_order 24 f_X1_at := by
  intro k j e
  unfold f_X1_at at e
  split at e
  · cases e; exact Or.inl rfl
  · cases e
theorem fq_X1_109_tR : FQ RX1 109 f_X4_clauses tR := by
  intro k j e
  unfold f_X4_clauses at e
  split at e
  · cases e; exact ⟨fl_X1_109_4, Or.inl ⟨_, rfl⟩⟩
  · cases e
def d_X1_order_61 (w : Wd) (F : Nat) (x : Nat) : M (Option Nat ⊕ Nat) :=
  zbd (znw 5 0 7) fun n12 =>
  zbd (zgI f_X1_at (some x)) fun v13 =>
  zbd (znn n12 (fun a => o_X5_init w F a v13)) fun _ =>
  znn n12 (fun a => zrt (Sum.inr a))
def B_X1_order_26 (w : Wd) (F : Nat) (k26 : M (Option Nat ⊕ Nat)) (x : Nat) (a2 : Option Nat) : M (Option Nat ⊕ Nat) :=
  zbd (zgI f_X1_at (some x)) fun v8 =>
  zbd (zgR f_X1_this_0 (some x)) fun v9 =>
  zbd (zgI f_X0_taped v9) fun v10 =>
  zif (v10 ≤ v8) (zrt (Sum.inl a2))
  (zbd (zv1 1 (some x) (fun a => o_X1_next w F a)) fun v11 =>
  zif (v11 = (59 : Int32)) (zbd (zgR f_X4_clauses a2) fun v12 =>
  zbd (zv1 30 v12 (fun a => o_J2_size w F a)) fun v13 =>
  zif (v13 = (8 : Int32)) (d_X1_order_61 w F x)
  (zbd (zgI f_X1_at (some x)) fun v14 =>
  zbd (zpI f_X1_at (some x) (v14 + (1 : Int32))) fun _ =>
  zbd (zgR f_X4_clauses a2) fun v15 =>
  zbd (zv1 1 (some x) (fun a => o_X1_clause w F a)) fun r => zsm r (fun v17 =>
  zbd (zv1 30 v15 (fun a => o_J2_add w F a v17)) fun v19 =>
  k26)
  (fun t18 => zrt (Sum.inr t18))))
  (d_X1_order_61 w F x))
def d_X1_order_26 (w : Wd) (F : Nat) (x : Nat) (a2 : Option Nat) : Nat → M (Option Nat ⊕ Nat)
  | 0 => zno
  | n + 1 => B_X1_order_26 w F (d_X1_order_26 w F x a2 n) x a2
def o_X1_order (w : Wd) (F : Nat) (x : Nat) (a1 : Int32) : M (Option Nat ⊕ Nat) :=
  zbd (zpI f_X1_at (some x) (0 : Int32)) fun _ =>
  zbd (znw 4 0 2) fun n1 =>
  zbd (znn n1 (fun a => o_X4_init w F a a1)) fun _ =>
  zbd (zgR f_X4_clauses n1) fun v3 =>
  zbd (zv1 1 (some x) (fun a => o_X1_clause w F a)) fun r => zsm r (fun v5 =>
  zbd (zv1 30 v3 (fun a => o_J2_add w F a v5)) fun v7 =>
  d_X1_order_26 w F x n1 F)
  (fun t6 => zrt (Sum.inr t6))
theorem b_X1_order_61 {w : Wd} {F : Nat} {x : Nat} {h h1 : Hp} {y : (Option Nat ⊕ Nat)} {c s : Nat} (H : d_X1_order_61 w F x h = some (y, h1, c, s)) : V w mX1_order cX1_order 242 c s h 61 [some (va_rf (some x)), none, none] [] (Ro (oX oR y) h1) := by
  unfold d_X1_order_61 at H
  refine D_new (g := 0) eX1_order_61 nl_X1_39 rfl H (fun n12 h c s H => ?_)
  refine V_dup (zcr _) eX1_order_64 ?_
  refine V_aload0 eX1_order_65 (zrf_rf _) ?_
  refine D_gI eX1_order_66 fq_X1_24_tI H (fun v13 H => ?_)
  refine D_callU (pc' := 72) (st := [va_rf n12]) H (fun v h' c1 s1 e cb sb k => ?_) (fun v14 h c s H => ?_)
  · obtain ⟨a, hr, e9⟩ := znn_ok e
    cases hr
    exact V_invokeinit eX1_order_69 lmX5_init rfl rfl q399 q400 (c_X5_init e9) (hRet_oU _ _) rfl rfl rfl (by simp only [List.map_cons, List.map_nil, zcr]; rfl) (kOU k)
  obtain ⟨a9, hr9, H⟩ := znn_ok H
  cases hr9
  obtain ⟨rfl, rfl, rfl, rfl⟩ := zrt_ok H
  exact V_athrow eX1_order_72 rfl ⟨rfl, rfl⟩
theorem bB_X1_order_26 {w : Wd} {F : Nat} {k26 : M (Option Nat ⊕ Nat)} {x : Nat} {a2 : Option Nat} (hk26 : ∀ (h : Hp) (y : (Option Nat ⊕ Nat)) (h1 : Hp) (c s : Nat), k26 h = some (y, h1, c, s) → V w mX1_order cX1_order 242 c s h 26 [some (va_rf (some x)), none, some (va_rf a2)] [] (Ro (oX oR y) h1)) {h h1 : Hp} {y : (Option Nat ⊕ Nat)} {c s : Nat} (H : B_X1_order_26 w F k26 x a2 h = some (y, h1, c, s)) : V w mX1_order cX1_order 242 c s h 26 [some (va_rf (some x)), none, some (va_rf a2)] [] (Ro (oX oR y) h1) := by
  unfold B_X1_order_26 at H
  refine V_aload0 eX1_order_26 (zrf_rf _) ?_
  refine D_gI eX1_order_27 fq_X1_24_tI H (fun v8 H => ?_)
  refine V_aload0 eX1_order_30 (zrf_rf _) ?_
  refine D_gR eX1_order_31 fq_X1_3_tR H (fun v9 H => ?_)
  refine D_gI eX1_order_34 fq_X1_28_tI H (fun v10 H => ?_)
  refine V_if_icmpge eX1_order_37 (fun q => ?_) (fun q => ?_)
  · have H := zif_t q H
    refine V_aload2 eX1_order_98 (zrf_rf _) ?_
    obtain ⟨rfl, rfl, rfl, rfl⟩ := zrt_ok H
    exact V_areturn eX1_order_99 rfl (Or.inl ⟨_, rfl⟩) ⟨rfl, rfl⟩
  · have H := zif_f q H
    refine V_aload0 eX1_order_40 (zrf_rf _) ?_
    refine D_callI (pc' := 44) (st := []) H (fun v h' c1 s1 e cb sb k => ?_) (fun v11 h c s H => ?_)
    · obtain ⟨a, hr, ha, hk, e9⟩ := zv1_ok e
      cases hr
      exact V_invokevirtual (k := 1) eX1_order_41 lmX1_next q357 q359 rfl rfl qs7 ha hk (c_X1_next e9) (hRet_oI _ _) rfl rfl rfl rfl (kOI k)
    refine V_bipush (v := 59) (by decide) eX1_order_44 ?_
    refine V_if_icmpne eX1_order_46 (fun q => ?_) (fun q => ?_)
    · have H := zif_f q H
      exact V_fg2 (b_X1_order_61 H) (zfg_k (zfg_n (zfg_n zfg_e)))
    · have H := zif_t q H
      refine V_aload2 eX1_order_49 (zrf_rf _) ?_
      refine D_gR eX1_order_50 fq_X1_109_tR H (fun v12 H => ?_)
      refine D_callI (pc' := 56) (st := []) H (fun v h' c1 s1 e cb sb k => ?_) (fun v13 h c s H => ?_)
      · obtain ⟨a, hr, ha, hk, e9⟩ := zv1_ok e
        cases hr
        exact V_invokevirtual (k := 30) eX1_order_53 lmJ2_size q524 q157 rfl rfl q158 ha hk (c_J2_size e9) (hRet_oI _ _) rfl rfl rfl rfl (kOI k)
      refine V_bipush (v := 8) (by decide) eX1_order_56 ?_
      refine V_if_icmpne eX1_order_58 (fun q => ?_) (fun q => ?_)
      · have H := zif_f q H
        refine V_aload0 eX1_order_73 (zrf_rf _) ?_
        refine V_dup (zcr _) eX1_order_74 ?_
        refine D_gI eX1_order_75 fq_X1_24_tI H (fun v14 H => ?_)
        refine V_iconst (v := 1) (by decide) eX1_order_78 ?_
        refine V_iadd eX1_order_79 ?_
        refine D_pI eX1_order_80 fq_X1_24_tN fn_X1_order_24 H (fun h H => ?_)
        refine V_aload2 eX1_order_83 (zrf_rf _) ?_
        refine D_gR eX1_order_84 fq_X1_109_tR H (fun v15 H => ?_)
        refine V_aload0 eX1_order_87 (zrf_rf _) ?_
        refine D_callXR (pc' := 91) (st := [va_rf v15]) H (fun v h' c1 s1 e cb sb k => ?_) (fun t h' c1 s1 e cb sb k => ?_) (fun v17 h c s H => ?_) (fun t18 h c s H => ?_)
        · obtain ⟨a, hr, ha, hk, e9⟩ := zv1_ok e
          cases hr
          exact V_invokevirtual (k := 1) eX1_order_88 lmX1_clause q339 q341 rfl rfl qs3 ha hk (c_X1_clause e9) (hRet_oR _ _) rfl rfl rfl (by simp only [List.map_cons, List.map_nil, zcr]; rfl) (kOR k)
        · obtain ⟨a, hr, ha, hk, e9⟩ := zv1_ok e
          cases hr
          exact V_invokevirtualX (k := 1) eX1_order_88 lmX1_clause q339 q341 rfl rfl qs3 ha hk (c_X1_clause e9) rfl rfl rfl (by simp only [List.map_cons, List.map_nil, zcr]; rfl) k
        · skip
          refine D_callI (pc' := 94) (st := []) H (fun v h' c1 s1 e cb sb k => ?_) (fun v19 h c s H => ?_)
          · obtain ⟨a, hr, ha, hk, e9⟩ := zv1_ok e
            cases hr
            exact V_invokevirtual (k := 30) eX1_order_91 lmJ2_add q523 q197 rfl rfl q198 ha hk (c_J2_add e9) (hRet_oI _ _) rfl rfl rfl rfl (kOI k)
          refine V_pop rfl eX1_order_94 ?_
          refine V_goto eX1_order_95 ?_
          exact V_fg2 (hk26 _ _ _ _ _ H) (zfg_k (zfg_n (zfg_k zfg_e)))
        · obtain ⟨rfl, rfl, rfl, rfl⟩ := zrt_ok H
          exact VX_out rfl ⟨rfl, rfl⟩
      · have H := zif_t q H
        exact V_fg2 (b_X1_order_61 H) (zfg_k (zfg_n (zfg_n zfg_e)))
theorem b_X1_order_26 {w : Wd} {F : Nat} {x : Nat} {a2 : Option Nat} : ∀ (n : Nat) (h : Hp) (y : (Option Nat ⊕ Nat)) (h1 : Hp) (c s : Nat), d_X1_order_26 w F x a2 n h = some (y, h1, c, s) → V w mX1_order cX1_order 242 c s h 26 [some (va_rf (some x)), none, some (va_rf a2)] [] (Ro (oX oR y) h1) := by
  intro n
  induction n with
  | zero => intro  h y h1 c s H; exact zno_no H
  | succ n ih => intro  h y h1 c s H; exact bB_X1_order_26 ih H
theorem c_X1_order {w : Wd} {F : Nat} {x : Nat} {a1 : Int32} {h h1 : Hp} {y : (Option Nat ⊕ Nat)} {c s : Nat} (H : o_X1_order w F x a1 h = some (y, h1, c, s)) : Con w mX1_order cX1_order 242 c s [.ref x, .int a1] h (Ro (oX oR y) h1) := by
  unfold o_X1_order at H
  refine Con.of (ls := [some (va_rf (some x)), some (.int a1), none]) (by decide +kernel) rfl rfl ?_
  refine V_aload0 eX1_order_0 (zrf_rf _) ?_
  refine V_iconst (v := 0) (by decide) eX1_order_1 ?_
  refine D_pI eX1_order_2 fq_X1_24_tN fn_X1_order_24 H (fun h H => ?_)
  refine D_new (g := 0) eX1_order_5 nl_X1_106 rfl H (fun n1 h c s H => ?_)
  refine V_dup (zcr _) eX1_order_8 ?_
  refine V_iload1 eX1_order_9 ?_
  refine D_callU (pc' := 13) (st := [va_rf n1]) H (fun v h' c1 s1 e cb sb k => ?_) (fun v2 h c s H => ?_)
  · obtain ⟨a, hr, e9⟩ := znn_ok e
    cases hr
    exact V_invokeinit eX1_order_10 lmX4_init rfl rfl q302 q303 (c_X4_init e9) (hRet_oU _ _) rfl rfl rfl (by simp only [List.map_cons, List.map_nil, zcr]; rfl) (kOU k)
  refine V_astore2 rfl eX1_order_13 rfl (zrf_rf _) ?_
  refine V_aload2 eX1_order_14 (zrf_rf _) ?_
  refine D_gR eX1_order_15 fq_X1_109_tR H (fun v3 H => ?_)
  refine V_aload0 eX1_order_18 (zrf_rf _) ?_
  refine D_callXR (pc' := 22) (st := [va_rf v3]) H (fun v h' c1 s1 e cb sb k => ?_) (fun t h' c1 s1 e cb sb k => ?_) (fun v5 h c s H => ?_) (fun t6 h c s H => ?_)
  · obtain ⟨a, hr, ha, hk, e9⟩ := zv1_ok e
    cases hr
    exact V_invokevirtual (k := 1) eX1_order_19 lmX1_clause q339 q341 rfl rfl qs3 ha hk (c_X1_clause e9) (hRet_oR _ _) rfl rfl rfl (by simp only [List.map_cons, List.map_nil, zcr]; rfl) (kOR k)
  · obtain ⟨a, hr, ha, hk, e9⟩ := zv1_ok e
    cases hr
    exact V_invokevirtualX (k := 1) eX1_order_19 lmX1_clause q339 q341 rfl rfl qs3 ha hk (c_X1_clause e9) rfl rfl rfl (by simp only [List.map_cons, List.map_nil, zcr]; rfl) k
  · skip
    refine D_callI (pc' := 25) (st := []) H (fun v h' c1 s1 e cb sb k => ?_) (fun v7 h c s H => ?_)
    · obtain ⟨a, hr, ha, hk, e9⟩ := zv1_ok e
      cases hr
      exact V_invokevirtual (k := 30) eX1_order_22 lmJ2_add q523 q197 rfl rfl q198 ha hk (c_J2_add e9) (hRet_oI _ _) rfl rfl rfl rfl (kOI k)
    refine V_pop rfl eX1_order_25 ?_
    exact V_fg2 (b_X1_order_26 _ _ _ _ _ _ H) (zfg_k (zfg_n (zfg_k zfg_e)))
  · obtain ⟨rfl, rfl, rfl, rfl⟩ := zrt_ok H
    exact VX_out rfl ⟨rfl, rfl⟩
def f_X0_orders : Nat → Option Nat := fun k => match k with
  | 0 => some 8
  | _ => none
theorem fq_X0_77_tR : FQ RX0 77 f_X0_orders tR := by
  intro k j e
  unfold f_X0_orders at e
  split at e
  · cases e; exact ⟨fl_X0_77_0, Or.inl ⟨_, rfl⟩⟩
  · cases e
def f_X0_reader : Nat → Option Nat := fun k => match k with
  | 0 => some 9
  | _ => none
theorem fq_X0_80_tR : FQ RX0 80 f_X0_reader tR := by
  intro k j e
  unfold f_X0_reader at e
  split at e
  · cases e; exact ⟨fl_X0_80_0, Or.inl ⟨_, rfl⟩⟩
  · cases e
theorem fn_X0_text_67 : FN mX0_text 67 f_X0_taped := by
  intro k j e
  unfold f_X0_taped at e
  split at e
  · cases e; exact Or.inl rfl
  · cases e
theorem fq_X0_92_tI : FQ RX0 92 f_X5_place tI := by
  intro k j e
  unfold f_X5_place at e
  split at e
  · cases e; exact ⟨fl_X0_92_5, Or.inl rfl⟩
  · cases e
def o_X0_text (w : Wd) (F : Nat) (x : Nat) (a1 : Int32) : M Int32 :=
  zbd (o_X0_isDay w F a1) fun v1 =>
  zif (v1 = 0) (zrt (-2 : Int32))
  (zbd (zgR f_X0_orders (some x)) fun v2 =>
  zbd (zv1 30 v2 (fun a => o_J2_size w F a)) fun v3 =>
  zif (v3 = (8 : Int32)) (zrt (-4 : Int32))
  (zbd (zgR f_X0_orders (some x)) fun v4 =>
  zbd (zgR f_X0_reader (some x)) fun v5 =>
  zbd (zv1 1 v5 (fun a => o_X1_order w F a a1)) fun r => zsm r (fun v7 =>
  zbd (zv1 30 v4 (fun a => o_J2_add w F a v7)) fun v9 =>
  zbd (zgR f_X0_orders (some x)) fun v10 =>
  zbd (zv1 30 v10 (fun a => o_J2_size w F a)) fun v11 =>
  zbd (zpI f_X0_taped (some x) (0 : Int32)) fun _ =>
  zrt (v11 - (1 : Int32)))
  (fun t8 => zbd (zgx 5 t8) fun _ =>
  zbd (zgI f_X5_place (some t8)) fun v12 =>
  zbd (zpI f_X0_taped (some x) (0 : Int32)) fun _ =>
  zrt ((-10 : Int32) - v12))))
theorem c_X0_text {w : Wd} {F : Nat} {x : Nat} {a1 : Int32} {h h1 : Hp} {y : Int32} {c s : Nat} (H : o_X0_text w F x a1 h = some (y, h1, c, s)) : Con w mX0_text cX0_text 243 c s [.ref x, .int a1] h (Ro (oI y) h1) := by
  unfold o_X0_text at H
  refine Con.of (ls := [some (va_rf (some x)), some (.int a1), none, none, none]) (by decide +kernel) rfl rfl ?_
  refine V_iload1 eX0_text_0 ?_
  refine D_callI (pc' := 4) (st := []) H (fun v h' c1 s1 e cb sb k => ?_) (fun v1 h c s H => ?_)
  · exact V_invokestatic eX0_text_1 lmX0_isDay q293 q294 (c_X0_isDay e) (hRet_oI _ _) rfl rfl rfl rfl (kOI k)
  refine V_ifne eX0_text_4 (fun q => ?_) (fun q => ?_)
  · have H := zif_f q H
    refine V_aload0 eX0_text_10 (zrf_rf _) ?_
    refine D_gR eX0_text_11 fq_X0_77_tR H (fun v2 H => ?_)
    refine D_callI (pc' := 17) (st := []) H (fun v h' c1 s1 e cb sb k => ?_) (fun v3 h c s H => ?_)
    · obtain ⟨a, hr, ha, hk, e9⟩ := zv1_ok e
      cases hr
      exact V_invokevirtual (k := 30) eX0_text_14 lmJ2_size q156 q157 rfl rfl q158 ha hk (c_J2_size e9) (hRet_oI _ _) rfl rfl rfl rfl (kOI k)
    refine V_bipush (v := 8) (by decide) eX0_text_17 ?_
    refine V_if_icmpne eX0_text_19 (fun q => ?_) (fun q => ?_)
    · have H := zif_f q H
      refine V_aload0 eX0_text_25 (zrf_rf _) ?_
      refine D_gR eX0_text_26 fq_X0_77_tR H (fun v4 H => ?_)
      refine V_aload0 eX0_text_29 (zrf_rf _) ?_
      refine D_gR eX0_text_30 fq_X0_80_tR H (fun v5 H => ?_)
      refine V_iload1 eX0_text_33 ?_
      refine D_callXR (pc' := 37) (st := [va_rf v4]) H (fun v h' c1 s1 e cb sb k => ?_) (fun t h' c1 s1 e cb sb k => ?_) (fun v7 h c s H => ?_) (fun t8 h c s H => ?_)
      · obtain ⟨a, hr, ha, hk, e9⟩ := zv1_ok e
        cases hr
        exact V_invokevirtual (k := 1) eX0_text_34 lmX1_order q296 q297 rfl rfl q298 ha hk (c_X1_order e9) (hRet_oR _ _) rfl rfl rfl (by simp only [List.map_cons, List.map_nil, zcr]; rfl) (kOR k)
      · obtain ⟨a, hr, ha, hk, e9⟩ := zv1_ok e
        cases hr
        exact V_invokevirtualX (k := 1) eX0_text_34 lmX1_order q296 q297 rfl rfl q298 ha hk (c_X1_order e9) rfl rfl rfl (by simp only [List.map_cons, List.map_nil, zcr]; rfl) k
      · skip
        refine D_callI (pc' := 40) (st := []) H (fun v h' c1 s1 e cb sb k => ?_) (fun v9 h c s H => ?_)
        · obtain ⟨a, hr, ha, hk, e9⟩ := zv1_ok e
          cases hr
          exact V_invokevirtual (k := 30) eX0_text_37 lmJ2_add q196 q197 rfl rfl q198 ha hk (c_J2_add e9) (hRet_oI _ _) rfl rfl rfl rfl (kOI k)
        refine V_pop rfl eX0_text_40 ?_
        refine V_aload0 eX0_text_41 (zrf_rf _) ?_
        refine D_gR eX0_text_42 fq_X0_77_tR H (fun v10 H => ?_)
        refine D_callI (pc' := 48) (st := []) H (fun v h' c1 s1 e cb sb k => ?_) (fun v11 h c s H => ?_)
        · obtain ⟨a, hr, ha, hk, e9⟩ := zv1_ok e
          cases hr
          exact V_invokevirtual (k := 30) eX0_text_45 lmJ2_size q156 q157 rfl rfl q158 ha hk (c_J2_size e9) (hRet_oI _ _) rfl rfl rfl rfl (kOI k)
        refine V_iconst (v := 1) (by decide) eX0_text_48 ?_
        refine V_isub eX0_text_49 ?_
        refine V_istore2 rfl eX0_text_50 rfl ?_
        refine V_aload0 eX0_text_51 (zrf_rf _) ?_
        refine V_iconst (v := 0) (by decide) eX0_text_52 ?_
        refine D_pI eX0_text_53 fq_X0_67_tN fn_X0_text_67 H (fun h H => ?_)
        refine V_iload2 eX0_text_56 ?_
        obtain ⟨rfl, rfl, rfl, rfl⟩ := zrt_ok H
        exact V_ireturn eX0_text_57 rfl ⟨rfl, rfl⟩
      · obtain ⟨⟨qa, qk⟩, H⟩ := zgx_ok H
        refine VX_catch (k := 5) rfl rfl rfl rfl q292 (by decide) rfl qa qk ?_
        refine V_astore2 rfl eX0_text_58 rfl (zrf_rf _) ?_
        refine V_bipush (v := -10) (by decide) eX0_text_59 ?_
        refine V_aload2 eX0_text_61 (zrf_rf _) ?_
        refine D_gI eX0_text_62 fq_X0_92_tI H (fun v12 H => ?_)
        refine V_isub eX0_text_65 ?_
        refine V_istore3 (znl_rf _) eX0_text_66 rfl ?_
        refine V_aload0 eX0_text_67 (zrf_rf _) ?_
        refine V_iconst (v := 0) (by decide) eX0_text_68 ?_
        refine D_pI eX0_text_69 fq_X0_67_tN fn_X0_text_67 H (fun h H => ?_)
        refine V_iload3 eX0_text_72 ?_
        obtain ⟨rfl, rfl, rfl, rfl⟩ := zrt_ok H
        exact V_ireturn eX0_text_73 rfl ⟨rfl, rfl⟩
    · have H := zif_t q H
      refine V_bipush (v := -4) (by decide) eX0_text_22 ?_
      obtain ⟨rfl, rfl, rfl, rfl⟩ := zrt_ok H
      exact V_ireturn eX0_text_24 rfl ⟨rfl, rfl⟩
  · have H := zif_t q H
    refine V_bipush (v := -2) (by decide) eX0_text_7 ?_
    obtain ⟨rfl, rfl, rfl, rfl⟩ := zrt_ok H
    exact V_ireturn eX0_text_9 rfl ⟨rfl, rfl⟩
def y_X6 : Nat → Bool := fun k => match k with
  | 6 => true
  | _ => false
theorem y_X6_ok : ∀ k, y_X6 k = true → zok k = true ∧ ((zcl k).1 = "LinesPromised$Clause" ∨ Cond.castable (zcl k).1 "LinesPromised$Clause" ∈ lw_tbl) := by
  intro k e
  unfold y_X6 at e
  split at e
  · exact ⟨by decide, Or.inl rfl⟩
  · cases e
theorem fq_X4_30_tI : FQ RX4 30 f_X6_word tI := by
  intro k j e
  unfold f_X6_word at e
  split at e
  · cases e; exact ⟨fl_X4_30_6, Or.inl rfl⟩
  · cases e
def d_X4_last_38 (w : Wd) (F : Nat) (a2 : Int32) : M Int32 :=
  zrt a2
def B_X4_last_10 (w : Wd) (F : Nat) (k10 : Int32 → M Int32) (x : Nat) (a1 : Int32) (a2 : Int32) : M Int32 :=
  zif (a2 < 0) (d_X4_last_38 w F a2)
  (zbd (zgR f_X4_clauses (some x)) fun v3 =>
  zbd (zv1 30 v3 (fun a => o_J2_get w F a a2)) fun v4 =>
  zbd (zcc y_X6 v4) fun _ =>
  zbd (zgI f_X6_word v4) fun v5 =>
  zif (v5 = a1) (d_X4_last_38 w F a2)
  (k10 (a2 + (-1 : Int32))))
def d_X4_last_10 (w : Wd) (F : Nat) (x : Nat) (a1 : Int32) : Nat → Int32 → M Int32
  | 0, _ => zno
  | n + 1, a2 => B_X4_last_10 w F (d_X4_last_10 w F x a1 n) x a1 a2
def o_X4_last (w : Wd) (F : Nat) (x : Nat) (a1 : Int32) : M Int32 :=
  zbd (zgR f_X4_clauses (some x)) fun v1 =>
  zbd (zv1 30 v1 (fun a => o_J2_size w F a)) fun v2 =>
  d_X4_last_10 w F x a1 F (v2 - (1 : Int32))
theorem b_X4_last_38 {w : Wd} {F : Nat} {a2 : Int32} {h h1 : Hp} {y : Int32} {c s : Nat} (H : d_X4_last_38 w F a2 h = some (y, h1, c, s)) : V w mX4_last cX4_last 3 c s h 38 [none, none, some (.int a2)] [] (Ro (oI y) h1) := by
  unfold d_X4_last_38 at H
  refine V_iload2 eX4_last_38 ?_
  obtain ⟨rfl, rfl, rfl, rfl⟩ := zrt_ok H
  exact V_ireturn eX4_last_39 rfl ⟨rfl, rfl⟩
theorem bB_X4_last_10 {w : Wd} {F : Nat} {k10 : Int32 → M Int32} {x : Nat} {a1 : Int32} (hk10 : ∀ (a2 : Int32) (h : Hp) (y : Int32) (h1 : Hp) (c s : Nat), k10 a2 h = some (y, h1, c, s) → V w mX4_last cX4_last 3 c s h 10 [some (va_rf (some x)), some (.int a1), some (.int a2)] [] (Ro (oI y) h1)) {a2 : Int32} {h h1 : Hp} {y : Int32} {c s : Nat} (H : B_X4_last_10 w F k10 x a1 a2 h = some (y, h1, c, s)) : V w mX4_last cX4_last 3 c s h 10 [some (va_rf (some x)), some (.int a1), some (.int a2)] [] (Ro (oI y) h1) := by
  unfold B_X4_last_10 at H
  refine V_iload2 eX4_last_10 ?_
  refine V_iflt eX4_last_11 (fun q => ?_) (fun q => ?_)
  · have H := zif_t q H
    exact V_fg2 (b_X4_last_38 H) (zfg_n (zfg_n (zfg_k zfg_e)))
  · have H := zif_f q H
    refine V_aload0 eX4_last_14 (zrf_rf _) ?_
    refine D_gR eX4_last_15 fq_X4_10_tR H (fun v3 H => ?_)
    refine V_iload2 eX4_last_18 ?_
    refine D_callR (pc' := 22) (st := []) H (fun v h' c1 s1 e cb sb k => ?_) (fun v4 h c s H => ?_)
    · obtain ⟨a, hr, ha, hk, e9⟩ := zv1_ok e
      cases hr
      exact V_invokevirtual (k := 30) eX4_last_19 lmJ2_get q548 q161 rfl rfl q162 ha hk (c_J2_get e9) (hRet_oR _ _) rfl rfl rfl rfl (kOR k)
    refine D_cast eX4_last_22 q549 y_X6_ok H (fun H => ?_)
    refine D_gI eX4_last_25 fq_X4_30_tI H (fun v5 H => ?_)
    refine V_iload1 eX4_last_28 ?_
    refine V_if_icmpeq eX4_last_29 (fun q => ?_) (fun q => ?_)
    · have H := zif_t q H
      exact V_fg2 (b_X4_last_38 H) (zfg_n (zfg_n (zfg_k zfg_e)))
    · have H := zif_f q H
      refine V_iinc2 rfl eX4_last_32 rfl (v := -1) (by decide) ?_
      refine V_goto eX4_last_35 ?_
      exact V_fg2 (hk10 _ _ _ _ _ _ H) (zfg_k (zfg_k (zfg_k zfg_e)))
theorem b_X4_last_10 {w : Wd} {F : Nat} {x : Nat} {a1 : Int32} : ∀ (n : Nat) (a2 : Int32) (h : Hp) (y : Int32) (h1 : Hp) (c s : Nat), d_X4_last_10 w F x a1 n a2 h = some (y, h1, c, s) → V w mX4_last cX4_last 3 c s h 10 [some (va_rf (some x)), some (.int a1), some (.int a2)] [] (Ro (oI y) h1) := by
  intro n
  induction n with
  | zero => intro a2 h y h1 c s H; exact zno_no H
  | succ n ih => intro a2 h y h1 c s H; exact bB_X4_last_10 ih H
theorem c_X4_last {w : Wd} {F : Nat} {x : Nat} {a1 : Int32} {h h1 : Hp} {y : Int32} {c s : Nat} (H : o_X4_last w F x a1 h = some (y, h1, c, s)) : Con w mX4_last cX4_last 3 c s [.ref x, .int a1] h (Ro (oI y) h1) := by
  unfold o_X4_last at H
  refine Con.of (ls := [some (va_rf (some x)), some (.int a1), none]) (by decide +kernel) rfl rfl ?_
  refine V_aload0 eX4_last_0 (zrf_rf _) ?_
  refine D_gR eX4_last_1 fq_X4_10_tR H (fun v1 H => ?_)
  refine D_callI (pc' := 7) (st := []) H (fun v h' c1 s1 e cb sb k => ?_) (fun v2 h c s H => ?_)
  · obtain ⟨a, hr, ha, hk, e9⟩ := zv1_ok e
    cases hr
    exact V_invokevirtual (k := 30) eX4_last_4 lmJ2_size q547 q157 rfl rfl q158 ha hk (c_J2_size e9) (hRet_oI _ _) rfl rfl rfl rfl (kOI k)
  refine V_iconst (v := 1) (by decide) eX4_last_7 ?_
  refine V_isub eX4_last_8 ?_
  refine V_istore2 rfl eX4_last_9 rfl ?_
  exact V_fg2 (b_X4_last_10 _ _ _ _ _ _ _ H) (zfg_k (zfg_k (zfg_k zfg_e)))
def y_X4 : Nat → Bool := fun k => match k with
  | 4 => true
  | _ => false
theorem y_X4_ok : ∀ k, y_X4 k = true → zok k = true ∧ ((zcl k).1 = "LinesPromised$Order" ∨ Cond.castable (zcl k).1 "LinesPromised$Order" ∈ lw_tbl) := by
  intro k e
  unfold y_X4 at e
  split at e
  · exact ⟨by decide, Or.inl rfl⟩
  · cases e
theorem fq_X0_97_tI : FQ RX0 97 f_X4_day tI := by
  intro k j e
  unfold f_X4_day at e
  split at e
  · cases e; exact ⟨fl_X0_97_4, Or.inl rfl⟩
  · cases e
def d_X0_orderFor_96 (w : Wd) (F : Nat) (k5 : Int32 → Int32 → M Int32) (x : Nat) (a1 : Int32) (a2 : Int32) (a3 : Int32) (a4 : Int32) : M Int32 :=
  k5 a3 (a4 + (1 : Int32))
def d_X0_orderFor_93 (w : Wd) (F : Nat) (k5 : Int32 → Int32 → M Int32) (x : Nat) (a1 : Int32) (a2 : Int32) (a4 : Int32) : M Int32 :=
  d_X0_orderFor_96 w F k5 x a1 a2 a4 a4
def B_X0_orderFor_5 (w : Wd) (F : Nat) (k5 : Int32 → Int32 → M Int32) (x : Nat) (a1 : Int32) (a2 : Int32) (a3 : Int32) (a4 : Int32) : M Int32 :=
  zbd (zgR f_X0_orders (some x)) fun v1 =>
  zbd (zv1 30 v1 (fun a => o_J2_size w F a)) fun v2 =>
  zif (v2 ≤ a4) (zrt a3)
  (zbd (zgR f_X0_orders (some x)) fun v3 =>
  zbd (zv1 30 v3 (fun a => o_J2_get w F a a4)) fun v4 =>
  zbd (zcc y_X4 v4) fun _ =>
  zbd (zgI f_X4_day v4) fun v5 =>
  zif (a2 < v5) (d_X0_orderFor_96 w F k5 x a1 a2 a3 a4)
  (zbd (zgR f_X0_orders (some x)) fun v6 =>
  zbd (zv1 30 v6 (fun a => o_J2_get w F a a4)) fun v7 =>
  zbd (zcc y_X4 v7) fun _ =>
  zbd (zv1 4 v7 (fun a => o_X4_last w F a a1)) fun v8 =>
  zif (v8 = (-1 : Int32)) (d_X0_orderFor_96 w F k5 x a1 a2 a3 a4)
  (zif (a3 = (-1 : Int32)) (d_X0_orderFor_93 w F k5 x a1 a2 a4)
  (zbd (zgR f_X0_orders (some x)) fun v9 =>
  zbd (zv1 30 v9 (fun a => o_J2_get w F a a4)) fun v10 =>
  zbd (zcc y_X4 v10) fun _ =>
  zbd (zgI f_X4_day v10) fun v11 =>
  zbd (zgR f_X0_orders (some x)) fun v12 =>
  zbd (zv1 30 v12 (fun a => o_J2_get w F a a3)) fun v13 =>
  zbd (zcc y_X4 v13) fun _ =>
  zbd (zgI f_X4_day v13) fun v14 =>
  zif (v11 < v14) (d_X0_orderFor_96 w F k5 x a1 a2 a3 a4)
  (d_X0_orderFor_93 w F k5 x a1 a2 a4)))))
def d_X0_orderFor_5 (w : Wd) (F : Nat) (x : Nat) (a1 : Int32) (a2 : Int32) : Nat → Int32 → Int32 → M Int32
  | 0, _, _ => zno
  | n + 1, a3, a4 => B_X0_orderFor_5 w F (d_X0_orderFor_5 w F x a1 a2 n) x a1 a2 a3 a4
def o_X0_orderFor (w : Wd) (F : Nat) (x : Nat) (a1 : Int32) (a2 : Int32) : M Int32 :=
  d_X0_orderFor_5 w F x a1 a2 F (-1 : Int32) (0 : Int32)
theorem b_X0_orderFor_96 {w : Wd} {F : Nat} {k5 : Int32 → Int32 → M Int32} {x : Nat} {a1 : Int32} {a2 : Int32} (hk5 : ∀ (a3 : Int32) (a4 : Int32) (h : Hp) (y : Int32) (h1 : Hp) (c s : Nat), k5 a3 a4 h = some (y, h1, c, s) → V w mX0_orderFor cX0_orderFor 4 c s h 5 [some (va_rf (some x)), some (.int a1), some (.int a2), some (.int a3), some (.int a4)] [] (Ro (oI y) h1)) {a3 : Int32} {a4 : Int32} {h h1 : Hp} {y : Int32} {c s : Nat} (H : d_X0_orderFor_96 w F k5 x a1 a2 a3 a4 h = some (y, h1, c, s)) : V w mX0_orderFor cX0_orderFor 4 c s h 96 [some (va_rf (some x)), some (.int a1), some (.int a2), some (.int a3), some (.int a4)] [] (Ro (oI y) h1) := by
  unfold d_X0_orderFor_96 at H
  refine V_iinc4 rfl eX0_orderFor_96 rfl (v := 1) (by decide) ?_
  refine V_goto eX0_orderFor_99 ?_
  exact V_fg2 (hk5 _ _ _ _ _ _ _ H) (zfg_k (zfg_k (zfg_k (zfg_k (zfg_k zfg_e)))))
theorem b_X0_orderFor_93 {w : Wd} {F : Nat} {k5 : Int32 → Int32 → M Int32} {x : Nat} {a1 : Int32} {a2 : Int32} (hk5 : ∀ (a3 : Int32) (a4 : Int32) (h : Hp) (y : Int32) (h1 : Hp) (c s : Nat), k5 a3 a4 h = some (y, h1, c, s) → V w mX0_orderFor cX0_orderFor 4 c s h 5 [some (va_rf (some x)), some (.int a1), some (.int a2), some (.int a3), some (.int a4)] [] (Ro (oI y) h1)) {a4 : Int32} {h h1 : Hp} {y : Int32} {c s : Nat} (H : d_X0_orderFor_93 w F k5 x a1 a2 a4 h = some (y, h1, c, s)) : V w mX0_orderFor cX0_orderFor 4 c s h 93 [some (va_rf (some x)), some (.int a1), some (.int a2), none, some (.int a4)] [] (Ro (oI y) h1) := by
  unfold d_X0_orderFor_93 at H
  refine V_iload4 eX0_orderFor_93 ?_
  refine V_istore3 rfl eX0_orderFor_95 rfl ?_
  exact V_fg2 (b_X0_orderFor_96 hk5 H) (zfg_k (zfg_k (zfg_k (zfg_k (zfg_k zfg_e)))))
theorem bB_X0_orderFor_5 {w : Wd} {F : Nat} {k5 : Int32 → Int32 → M Int32} {x : Nat} {a1 : Int32} {a2 : Int32} (hk5 : ∀ (a3 : Int32) (a4 : Int32) (h : Hp) (y : Int32) (h1 : Hp) (c s : Nat), k5 a3 a4 h = some (y, h1, c, s) → V w mX0_orderFor cX0_orderFor 4 c s h 5 [some (va_rf (some x)), some (.int a1), some (.int a2), some (.int a3), some (.int a4)] [] (Ro (oI y) h1)) {a3 : Int32} {a4 : Int32} {h h1 : Hp} {y : Int32} {c s : Nat} (H : B_X0_orderFor_5 w F k5 x a1 a2 a3 a4 h = some (y, h1, c, s)) : V w mX0_orderFor cX0_orderFor 4 c s h 5 [some (va_rf (some x)), some (.int a1), some (.int a2), some (.int a3), some (.int a4)] [] (Ro (oI y) h1) := by
  unfold B_X0_orderFor_5 at H
  refine V_iload4 eX0_orderFor_5 ?_
  refine V_aload0 eX0_orderFor_7 (zrf_rf _) ?_
  refine D_gR eX0_orderFor_8 fq_X0_77_tR H (fun v1 H => ?_)
  refine D_callI (pc' := 14) (st := [.int a4]) H (fun v h' c1 s1 e cb sb k => ?_) (fun v2 h c s H => ?_)
  · obtain ⟨a, hr, ha, hk, e9⟩ := zv1_ok e
    cases hr
    exact V_invokevirtual (k := 30) eX0_orderFor_11 lmJ2_size q156 q157 rfl rfl q158 ha hk (c_J2_size e9) (hRet_oI _ _) rfl rfl rfl rfl (kOI k)
  refine V_if_icmpge eX0_orderFor_14 (fun q => ?_) (fun q => ?_)
  · have H := zif_t q H
    refine V_iload3 eX0_orderFor_102 ?_
    obtain ⟨rfl, rfl, rfl, rfl⟩ := zrt_ok H
    exact V_ireturn eX0_orderFor_103 rfl ⟨rfl, rfl⟩
  · have H := zif_f q H
    refine V_aload0 eX0_orderFor_17 (zrf_rf _) ?_
    refine D_gR eX0_orderFor_18 fq_X0_77_tR H (fun v3 H => ?_)
    refine V_iload4 eX0_orderFor_21 ?_
    refine D_callR (pc' := 26) (st := []) H (fun v h' c1 s1 e cb sb k => ?_) (fun v4 h c s H => ?_)
    · obtain ⟨a, hr, ha, hk, e9⟩ := zv1_ok e
      cases hr
      exact V_invokevirtual (k := 30) eX0_orderFor_23 lmJ2_get q160 q161 rfl rfl q162 ha hk (c_J2_get e9) (hRet_oR _ _) rfl rfl rfl rfl (kOR k)
    refine D_cast eX0_orderFor_26 q542 y_X4_ok H (fun H => ?_)
    refine D_gI eX0_orderFor_29 fq_X0_97_tI H (fun v5 H => ?_)
    refine V_iload2 eX0_orderFor_32 ?_
    refine V_if_icmpgt eX0_orderFor_33 (fun q => ?_) (fun q => ?_)
    · have H := zif_t q H
      exact V_fg2 (b_X0_orderFor_96 hk5 H) (zfg_k (zfg_k (zfg_k (zfg_k (zfg_k zfg_e)))))
    · have H := zif_f q H
      refine V_aload0 eX0_orderFor_36 (zrf_rf _) ?_
      refine D_gR eX0_orderFor_37 fq_X0_77_tR H (fun v6 H => ?_)
      refine V_iload4 eX0_orderFor_40 ?_
      refine D_callR (pc' := 45) (st := []) H (fun v h' c1 s1 e cb sb k => ?_) (fun v7 h c s H => ?_)
      · obtain ⟨a, hr, ha, hk, e9⟩ := zv1_ok e
        cases hr
        exact V_invokevirtual (k := 30) eX0_orderFor_42 lmJ2_get q160 q161 rfl rfl q162 ha hk (c_J2_get e9) (hRet_oR _ _) rfl rfl rfl rfl (kOR k)
      refine D_cast eX0_orderFor_45 q542 y_X4_ok H (fun H => ?_)
      refine V_iload1 eX0_orderFor_48 ?_
      refine D_callI (pc' := 52) (st := []) H (fun v h' c1 s1 e cb sb k => ?_) (fun v8 h c s H => ?_)
      · obtain ⟨a, hr, ha, hk, e9⟩ := zv1_ok e
        cases hr
        exact V_invokevirtual (k := 4) eX0_orderFor_49 lmX4_last q543 q544 rfl rfl q545 ha hk (c_X4_last e9) (hRet_oI _ _) rfl rfl rfl rfl (kOI k)
      refine V_iconst (v := -1) (by decide) eX0_orderFor_52 ?_
      refine V_if_icmpeq eX0_orderFor_53 (fun q => ?_) (fun q => ?_)
      · have H := zif_t q H
        exact V_fg2 (b_X0_orderFor_96 hk5 H) (zfg_k (zfg_k (zfg_k (zfg_k (zfg_k zfg_e)))))
      · have H := zif_f q H
        refine V_iload3 eX0_orderFor_56 ?_
        refine V_iconst (v := -1) (by decide) eX0_orderFor_57 ?_
        refine V_if_icmpeq eX0_orderFor_58 (fun q => ?_) (fun q => ?_)
        · have H := zif_t q H
          exact V_fg2 (b_X0_orderFor_93 hk5 H) (zfg_k (zfg_k (zfg_k (zfg_n (zfg_k zfg_e)))))
        · have H := zif_f q H
          refine V_aload0 eX0_orderFor_61 (zrf_rf _) ?_
          refine D_gR eX0_orderFor_62 fq_X0_77_tR H (fun v9 H => ?_)
          refine V_iload4 eX0_orderFor_65 ?_
          refine D_callR (pc' := 70) (st := []) H (fun v h' c1 s1 e cb sb k => ?_) (fun v10 h c s H => ?_)
          · obtain ⟨a, hr, ha, hk, e9⟩ := zv1_ok e
            cases hr
            exact V_invokevirtual (k := 30) eX0_orderFor_67 lmJ2_get q160 q161 rfl rfl q162 ha hk (c_J2_get e9) (hRet_oR _ _) rfl rfl rfl rfl (kOR k)
          refine D_cast eX0_orderFor_70 q542 y_X4_ok H (fun H => ?_)
          refine D_gI eX0_orderFor_73 fq_X0_97_tI H (fun v11 H => ?_)
          refine V_aload0 eX0_orderFor_76 (zrf_rf _) ?_
          refine D_gR eX0_orderFor_77 fq_X0_77_tR H (fun v12 H => ?_)
          refine V_iload3 eX0_orderFor_80 ?_
          refine D_callR (pc' := 84) (st := [.int v11]) H (fun v h' c1 s1 e cb sb k => ?_) (fun v13 h c s H => ?_)
          · obtain ⟨a, hr, ha, hk, e9⟩ := zv1_ok e
            cases hr
            exact V_invokevirtual (k := 30) eX0_orderFor_81 lmJ2_get q160 q161 rfl rfl q162 ha hk (c_J2_get e9) (hRet_oR _ _) rfl rfl rfl rfl (kOR k)
          refine D_cast eX0_orderFor_84 q542 y_X4_ok H (fun H => ?_)
          refine D_gI eX0_orderFor_87 fq_X0_97_tI H (fun v14 H => ?_)
          refine V_if_icmplt eX0_orderFor_90 (fun q => ?_) (fun q => ?_)
          · have H := zif_t q H
            exact V_fg2 (b_X0_orderFor_96 hk5 H) (zfg_k (zfg_k (zfg_k (zfg_k (zfg_k zfg_e)))))
          · have H := zif_f q H
            exact V_fg2 (b_X0_orderFor_93 hk5 H) (zfg_k (zfg_k (zfg_k (zfg_n (zfg_k zfg_e)))))
theorem b_X0_orderFor_5 {w : Wd} {F : Nat} {x : Nat} {a1 : Int32} {a2 : Int32} : ∀ (n : Nat) (a3 : Int32) (a4 : Int32) (h : Hp) (y : Int32) (h1 : Hp) (c s : Nat), d_X0_orderFor_5 w F x a1 a2 n a3 a4 h = some (y, h1, c, s) → V w mX0_orderFor cX0_orderFor 4 c s h 5 [some (va_rf (some x)), some (.int a1), some (.int a2), some (.int a3), some (.int a4)] [] (Ro (oI y) h1) := by
  intro n
  induction n with
  | zero => intro a3 a4 h y h1 c s H; exact zno_no H
  | succ n ih => intro a3 a4 h y h1 c s H; exact bB_X0_orderFor_5 ih H
theorem c_X0_orderFor {w : Wd} {F : Nat} {x : Nat} {a1 : Int32} {a2 : Int32} {h h1 : Hp} {y : Int32} {c s : Nat} (H : o_X0_orderFor w F x a1 a2 h = some (y, h1, c, s)) : Con w mX0_orderFor cX0_orderFor 4 c s [.ref x, .int a1, .int a2] h (Ro (oI y) h1) := by
  unfold o_X0_orderFor at H
  refine Con.of (ls := [some (va_rf (some x)), some (.int a1), some (.int a2), none, none]) (by decide +kernel) rfl rfl ?_
  refine V_iconst (v := -1) (by decide) eX0_orderFor_0 ?_
  refine V_istore3 rfl eX0_orderFor_1 rfl ?_
  refine V_iconst (v := 0) (by decide) eX0_orderFor_2 ?_
  refine V_istore4 rfl eX0_orderFor_3 rfl ?_
  exact V_fg2 (b_X0_orderFor_5 _ _ _ _ _ _ _ _ H) (zfg_k (zfg_k (zfg_k (zfg_k (zfg_k zfg_e)))))
theorem fq_X0_106_tR : FQ RX0 106 f_X4_clauses tR := by
  intro k j e
  unfold f_X4_clauses at e
  split at e
  · cases e; exact ⟨fl_X0_106_4, Or.inl ⟨_, rfl⟩⟩
  · cases e
def d_X0_clauseFor_51 (w : Wd) (F : Nat) (s0 : Option Nat) : M (Option Nat) :=
  zrt s0
def o_X0_clauseFor (w : Wd) (F : Nat) (x : Nat) (a1 : Int32) (a2 : Int32) : M (Option Nat) :=
  zbd (zv1 0 (some x) (fun a => o_X0_orderFor w F a a1 a2)) fun v1 =>
  zif (v1 = (-1 : Int32)) (d_X0_clauseFor_51 w F none)
  (zbd (zgR f_X0_orders (some x)) fun v2 =>
  zbd (zv1 30 v2 (fun a => o_J2_get w F a v1)) fun v3 =>
  zbd (zcc y_X4 v3) fun _ =>
  zbd (zgR f_X4_clauses v3) fun v4 =>
  zbd (zgR f_X0_orders (some x)) fun v5 =>
  zbd (zv1 30 v5 (fun a => o_J2_get w F a v1)) fun v6 =>
  zbd (zcc y_X4 v6) fun _ =>
  zbd (zv1 4 v6 (fun a => o_X4_last w F a a1)) fun v7 =>
  zbd (zv1 30 v4 (fun a => o_J2_get w F a v7)) fun v8 =>
  zbd (zcc y_X6 v8) fun _ =>
  d_X0_clauseFor_51 w F v8)
theorem b_X0_clauseFor_51 {w : Wd} {F : Nat} {s0 : Option Nat} {h h1 : Hp} {y : Option Nat} {c s : Nat} (H : d_X0_clauseFor_51 w F s0 h = some (y, h1, c, s)) : V w mX0_clauseFor cX0_clauseFor 5 c s h 51 [none, none, none, none] [va_rf s0] (Ro (oR y) h1) := by
  unfold d_X0_clauseFor_51 at H
  obtain ⟨rfl, rfl, rfl, rfl⟩ := zrt_ok H
  exact V_areturn eX0_clauseFor_51 rfl (Or.inl ⟨_, rfl⟩) ⟨rfl, rfl⟩
theorem c_X0_clauseFor {w : Wd} {F : Nat} {x : Nat} {a1 : Int32} {a2 : Int32} {h h1 : Hp} {y : Option Nat} {c s : Nat} (H : o_X0_clauseFor w F x a1 a2 h = some (y, h1, c, s)) : Con w mX0_clauseFor cX0_clauseFor 5 c s [.ref x, .int a1, .int a2] h (Ro (oR y) h1) := by
  unfold o_X0_clauseFor at H
  refine Con.of (ls := [some (va_rf (some x)), some (.int a1), some (.int a2), none]) (by decide +kernel) rfl rfl ?_
  refine V_aload0 eX0_clauseFor_0 (zrf_rf _) ?_
  refine V_iload1 eX0_clauseFor_1 ?_
  refine V_iload2 eX0_clauseFor_2 ?_
  refine D_callI (pc' := 6) (st := []) H (fun v h' c1 s1 e cb sb k => ?_) (fun v1 h c s H => ?_)
  · obtain ⟨a, hr, ha, hk, e9⟩ := zv1_ok e
    cases hr
    exact V_invokevirtual (k := 0) eX0_clauseFor_3 lmX0_orderFor q538 q540 rfl rfl qs17 ha hk (c_X0_orderFor e9) (hRet_oI _ _) rfl rfl rfl rfl (kOI k)
  refine V_istore3 rfl eX0_clauseFor_6 rfl ?_
  refine V_iload3 eX0_clauseFor_7 ?_
  refine V_iconst (v := -1) (by decide) eX0_clauseFor_8 ?_
  refine V_if_icmpne eX0_clauseFor_9 (fun q => ?_) (fun q => ?_)
  · have H := zif_f q H
    refine V_aload0 eX0_clauseFor_16 (zrf_rf _) ?_
    refine D_gR eX0_clauseFor_17 fq_X0_77_tR H (fun v2 H => ?_)
    refine V_iload3 eX0_clauseFor_20 ?_
    refine D_callR (pc' := 24) (st := []) H (fun v h' c1 s1 e cb sb k => ?_) (fun v3 h c s H => ?_)
    · obtain ⟨a, hr, ha, hk, e9⟩ := zv1_ok e
      cases hr
      exact V_invokevirtual (k := 30) eX0_clauseFor_21 lmJ2_get q160 q161 rfl rfl q162 ha hk (c_J2_get e9) (hRet_oR _ _) rfl rfl rfl rfl (kOR k)
    refine D_cast eX0_clauseFor_24 q542 y_X4_ok H (fun H => ?_)
    refine D_gR eX0_clauseFor_27 fq_X0_106_tR H (fun v4 H => ?_)
    refine V_aload0 eX0_clauseFor_30 (zrf_rf _) ?_
    refine D_gR eX0_clauseFor_31 fq_X0_77_tR H (fun v5 H => ?_)
    refine V_iload3 eX0_clauseFor_34 ?_
    refine D_callR (pc' := 38) (st := [va_rf v4]) H (fun v h' c1 s1 e cb sb k => ?_) (fun v6 h c s H => ?_)
    · obtain ⟨a, hr, ha, hk, e9⟩ := zv1_ok e
      cases hr
      exact V_invokevirtual (k := 30) eX0_clauseFor_35 lmJ2_get q160 q161 rfl rfl q162 ha hk (c_J2_get e9) (hRet_oR _ _) rfl rfl rfl (by simp only [List.map_cons, List.map_nil, zcr]; rfl) (kOR k)
    refine D_cast eX0_clauseFor_38 q542 y_X4_ok H (fun H => ?_)
    refine V_iload1 eX0_clauseFor_41 ?_
    refine D_callI (pc' := 45) (st := [va_rf v4]) H (fun v h' c1 s1 e cb sb k => ?_) (fun v7 h c s H => ?_)
    · obtain ⟨a, hr, ha, hk, e9⟩ := zv1_ok e
      cases hr
      exact V_invokevirtual (k := 4) eX0_clauseFor_42 lmX4_last q543 q544 rfl rfl q545 ha hk (c_X4_last e9) (hRet_oI _ _) rfl rfl rfl (by simp only [List.map_cons, List.map_nil, zcr]; rfl) (kOI k)
    refine D_callR (pc' := 48) (st := []) H (fun v h' c1 s1 e cb sb k => ?_) (fun v8 h c s H => ?_)
    · obtain ⟨a, hr, ha, hk, e9⟩ := zv1_ok e
      cases hr
      exact V_invokevirtual (k := 30) eX0_clauseFor_45 lmJ2_get q160 q161 rfl rfl q162 ha hk (c_J2_get e9) (hRet_oR _ _) rfl rfl rfl rfl (kOR k)
    refine D_cast eX0_clauseFor_48 q550 y_X6_ok H (fun H => ?_)
    exact V_fg2 (b_X0_clauseFor_51 H) (zfg_n (zfg_n (zfg_n (zfg_n zfg_e))))
  · have H := zif_t q H
    refine D_null eX0_clauseFor_12 ?_
    refine V_goto eX0_clauseFor_13 ?_
    exact V_fg2 (b_X0_clauseFor_51 H) (zfg_n (zfg_n (zfg_n (zfg_n zfg_e))))
theorem fq_X0_115_tI : FQ RX0 115 f_X6_number tI := by
  intro k j e
  unfold f_X6_number at e
  split at e
  · cases e; exact ⟨fl_X0_115_6, Or.inl rfl⟩
  · cases e
def o_X0_rule (w : Wd) (F : Nat) (x : Nat) (a1 : Int32) (a2 : Int32) : M Int32 :=
  zbd (zv1 0 (some x) (fun a => o_X0_clauseFor w F a a1 a2)) fun v1 =>
  zif (v1 = none) (zif (a1 = (0 : Int32)) (zrt (99 : Int32))
  (zif (a1 = (1 : Int32)) (zrt (2 : Int32))
  (zif (a1 = (2 : Int32)) (zrt (999 : Int32))
  (zif (a1 = (3 : Int32)) (zrt (50 : Int32))
  (zif (a1 = (4 : Int32)) (zrt (10 : Int32))
  (zif (a1 = (5 : Int32)) (zrt (1 : Int32))
  (zrt (0 : Int32))))))))
  (zbd (zgI f_X6_number v1) fun v2 =>
  zrt v2)
theorem c_X0_rule {w : Wd} {F : Nat} {x : Nat} {a1 : Int32} {a2 : Int32} {h h1 : Hp} {y : Int32} {c s : Nat} (H : o_X0_rule w F x a1 a2 h = some (y, h1, c, s)) : Con w mX0_rule cX0_rule 6 c s [.ref x, .int a1, .int a2] h (Ro (oI y) h1) := by
  unfold o_X0_rule at H
  refine Con.of (ls := [some (va_rf (some x)), some (.int a1), some (.int a2), none]) (by decide +kernel) rfl rfl ?_
  refine V_aload0 eX0_rule_0 (zrf_rf _) ?_
  refine V_iload1 eX0_rule_1 ?_
  refine V_iload2 eX0_rule_2 ?_
  refine D_callR (pc' := 6) (st := []) H (fun v h' c1 s1 e cb sb k => ?_) (fun v1 h c s H => ?_)
  · obtain ⟨a, hr, ha, hk, e9⟩ := zv1_ok e
    cases hr
    exact V_invokevirtual (k := 0) eX0_rule_3 lmX0_clauseFor q534 q536 rfl rfl qs16 ha hk (c_X0_clauseFor e9) (hRet_oR _ _) rfl rfl rfl rfl (kOR k)
  refine V_astore3 rfl eX0_rule_6 rfl (zrf_rf _) ?_
  refine V_aload3 eX0_rule_7 (zrf_rf _) ?_
  refine V_ifnull eX0_rule_8 (fun q => ?_) (fun a q => ?_)
  · have H := zif_t q H
    refine V_iload1 eX0_rule_16 ?_
    refine V_tableswitch eX0_rule_17 (fun i t e1 e2 => ?_) (fun q => ?_)
    · rcases (show i = 0 ∨ i = 1 ∨ i = 2 ∨ i = 3 ∨ i = 4 ∨ i = 5 ∨ 6 ≤ i by omega) with rfl | rfl | rfl | rfl | rfl | rfl | hlt
      · cases (show some 56 = some t from e1)
        have q : a1 = (0 : Int32) := Int32.toInt_inj.mp (e2.trans (by decide))
        have H := zif_t q H
        refine V_bipush (v := 99) (by decide) eX0_rule_56 ?_
        obtain ⟨rfl, rfl, rfl, rfl⟩ := zrt_ok H
        exact V_ireturn eX0_rule_58 rfl ⟨rfl, rfl⟩
      · cases (show some 59 = some t from e1)
        have q : a1 = (1 : Int32) := Int32.toInt_inj.mp (e2.trans (by decide))
        have H := zif_f (show ¬ a1 = (0 : Int32) from fun z => absurd (q.symm.trans z) (by decide)) H
        have H := zif_t q H
        refine V_iconst (v := 2) (by decide) eX0_rule_59 ?_
        obtain ⟨rfl, rfl, rfl, rfl⟩ := zrt_ok H
        exact V_ireturn eX0_rule_60 rfl ⟨rfl, rfl⟩
      · cases (show some 61 = some t from e1)
        have q : a1 = (2 : Int32) := Int32.toInt_inj.mp (e2.trans (by decide))
        have H := zif_f (show ¬ a1 = (0 : Int32) from fun z => absurd (q.symm.trans z) (by decide)) H
        have H := zif_f (show ¬ a1 = (1 : Int32) from fun z => absurd (q.symm.trans z) (by decide)) H
        have H := zif_t q H
        refine V_sipush (v := 999) (by decide) eX0_rule_61 ?_
        obtain ⟨rfl, rfl, rfl, rfl⟩ := zrt_ok H
        exact V_ireturn eX0_rule_64 rfl ⟨rfl, rfl⟩
      · cases (show some 65 = some t from e1)
        have q : a1 = (3 : Int32) := Int32.toInt_inj.mp (e2.trans (by decide))
        have H := zif_f (show ¬ a1 = (0 : Int32) from fun z => absurd (q.symm.trans z) (by decide)) H
        have H := zif_f (show ¬ a1 = (1 : Int32) from fun z => absurd (q.symm.trans z) (by decide)) H
        have H := zif_f (show ¬ a1 = (2 : Int32) from fun z => absurd (q.symm.trans z) (by decide)) H
        have H := zif_t q H
        refine V_bipush (v := 50) (by decide) eX0_rule_65 ?_
        obtain ⟨rfl, rfl, rfl, rfl⟩ := zrt_ok H
        exact V_ireturn eX0_rule_67 rfl ⟨rfl, rfl⟩
      · cases (show some 68 = some t from e1)
        have q : a1 = (4 : Int32) := Int32.toInt_inj.mp (e2.trans (by decide))
        have H := zif_f (show ¬ a1 = (0 : Int32) from fun z => absurd (q.symm.trans z) (by decide)) H
        have H := zif_f (show ¬ a1 = (1 : Int32) from fun z => absurd (q.symm.trans z) (by decide)) H
        have H := zif_f (show ¬ a1 = (2 : Int32) from fun z => absurd (q.symm.trans z) (by decide)) H
        have H := zif_f (show ¬ a1 = (3 : Int32) from fun z => absurd (q.symm.trans z) (by decide)) H
        have H := zif_t q H
        refine V_bipush (v := 10) (by decide) eX0_rule_68 ?_
        obtain ⟨rfl, rfl, rfl, rfl⟩ := zrt_ok H
        exact V_ireturn eX0_rule_70 rfl ⟨rfl, rfl⟩
      · cases (show some 71 = some t from e1)
        have q : a1 = (5 : Int32) := Int32.toInt_inj.mp (e2.trans (by decide))
        have H := zif_f (show ¬ a1 = (0 : Int32) from fun z => absurd (q.symm.trans z) (by decide)) H
        have H := zif_f (show ¬ a1 = (1 : Int32) from fun z => absurd (q.symm.trans z) (by decide)) H
        have H := zif_f (show ¬ a1 = (2 : Int32) from fun z => absurd (q.symm.trans z) (by decide)) H
        have H := zif_f (show ¬ a1 = (3 : Int32) from fun z => absurd (q.symm.trans z) (by decide)) H
        have H := zif_f (show ¬ a1 = (4 : Int32) from fun z => absurd (q.symm.trans z) (by decide)) H
        have H := zif_t q H
        refine V_iconst (v := 1) (by decide) eX0_rule_71 ?_
        obtain ⟨rfl, rfl, rfl, rfl⟩ := zrt_ok H
        exact V_ireturn eX0_rule_72 rfl ⟨rfl, rfl⟩
      · rw [List.getElem?_eq_none (by simpa using hlt)] at e1; cases e1
    · have q9 := q
      have H := zif_f (show ¬ a1 = (0 : Int32) from fun z => by rw [z] at q9; exact absurd q9 (by decide)) H
      have H := zif_f (show ¬ a1 = (1 : Int32) from fun z => by rw [z] at q9; exact absurd q9 (by decide)) H
      have H := zif_f (show ¬ a1 = (2 : Int32) from fun z => by rw [z] at q9; exact absurd q9 (by decide)) H
      have H := zif_f (show ¬ a1 = (3 : Int32) from fun z => by rw [z] at q9; exact absurd q9 (by decide)) H
      have H := zif_f (show ¬ a1 = (4 : Int32) from fun z => by rw [z] at q9; exact absurd q9 (by decide)) H
      have H := zif_f (show ¬ a1 = (5 : Int32) from fun z => by rw [z] at q9; exact absurd q9 (by decide)) H
      refine V_iconst (v := 0) (by decide) eX0_rule_73 ?_
      obtain ⟨rfl, rfl, rfl, rfl⟩ := zrt_ok H
      exact V_ireturn eX0_rule_74 rfl ⟨rfl, rfl⟩
  · have H := zif_f (zsn q) H
    refine V_aload3 eX0_rule_11 (zrf_rf _) ?_
    refine D_gI eX0_rule_12 fq_X0_115_tI H (fun v2 H => ?_)
    obtain ⟨rfl, rfl, rfl, rfl⟩ := zrt_ok H
    exact V_ireturn eX0_rule_15 rfl ⟨rfl, rfl⟩
def d_X0_force_32 (w : Wd) (F : Nat) (s0 : Int32) : M Int32 :=
  zrt s0
def o_X0_force (w : Wd) (F : Nat) (x : Nat) (a1 : Int32) (a2 : Int32) : M Int32 :=
  zbd (o_X0_in w F a1 (0 : Int32) (6 : Int32)) fun v1 =>
  zif (v1 = 0) (d_X0_force_32 w F (-1 : Int32))
  (zbd (o_X0_isDay w F a2) fun v2 =>
  zif (v2 = 0) (d_X0_force_32 w F (-2 : Int32))
  (zbd (zv1 0 (some x) (fun a => o_X0_rule w F a a1 a2)) fun v3 =>
  d_X0_force_32 w F v3))
theorem b_X0_force_32 {w : Wd} {F : Nat} {s0 : Int32} {h h1 : Hp} {y : Int32} {c s : Nat} (H : d_X0_force_32 w F s0 h = some (y, h1, c, s)) : V w mX0_force cX0_force 7 c s h 32 [none, none, none] [.int s0] (Ro (oI y) h1) := by
  unfold d_X0_force_32 at H
  obtain ⟨rfl, rfl, rfl, rfl⟩ := zrt_ok H
  exact V_ireturn eX0_force_32 rfl ⟨rfl, rfl⟩
theorem c_X0_force {w : Wd} {F : Nat} {x : Nat} {a1 : Int32} {a2 : Int32} {h h1 : Hp} {y : Int32} {c s : Nat} (H : o_X0_force w F x a1 a2 h = some (y, h1, c, s)) : Con w mX0_force cX0_force 7 c s [.ref x, .int a1, .int a2] h (Ro (oI y) h1) := by
  unfold o_X0_force at H
  refine Con.of (ls := [some (va_rf (some x)), some (.int a1), some (.int a2)]) (by decide +kernel) rfl rfl ?_
  refine V_iload1 eX0_force_0 ?_
  refine V_iconst (v := 0) (by decide) eX0_force_1 ?_
  refine V_bipush (v := 6) (by decide) eX0_force_2 ?_
  refine D_callI (pc' := 7) (st := []) H (fun v h' c1 s1 e cb sb k => ?_) (fun v1 h c s H => ?_)
  · exact V_invokestatic eX0_force_4 lmX0_in q149 q150 (c_X0_in e) (hRet_oI _ _) rfl rfl rfl rfl (kOI k)
  refine V_ifne eX0_force_7 (fun q => ?_) (fun q => ?_)
  · have H := zif_f q H
    refine V_iload2 eX0_force_14 ?_
    refine D_callI (pc' := 18) (st := []) H (fun v h' c1 s1 e cb sb k => ?_) (fun v2 h c s H => ?_)
    · exact V_invokestatic eX0_force_15 lmX0_isDay q293 q294 (c_X0_isDay e) (hRet_oI _ _) rfl rfl rfl rfl (kOI k)
    refine V_ifeq eX0_force_18 (fun q => ?_) (fun q => ?_)
    · have H := zif_t q H
      refine V_bipush (v := -2) (by decide) eX0_force_30 ?_
      exact V_fg2 (b_X0_force_32 H) (zfg_n (zfg_n (zfg_n zfg_e)))
    · have H := zif_f q H
      refine V_aload0 eX0_force_21 (zrf_rf _) ?_
      refine V_iload1 eX0_force_22 ?_
      refine V_iload2 eX0_force_23 ?_
      refine D_callI (pc' := 27) (st := []) H (fun v h' c1 s1 e cb sb k => ?_) (fun v3 h c s H => ?_)
      · obtain ⟨a, hr, ha, hk, e9⟩ := zv1_ok e
        cases hr
        exact V_invokevirtual (k := 0) eX0_force_24 lmX0_rule q529 q531 rfl rfl qs15 ha hk (c_X0_rule e9) (hRet_oI _ _) rfl rfl rfl rfl (kOI k)
      refine V_goto eX0_force_27 ?_
      exact V_fg2 (b_X0_force_32 H) (zfg_n (zfg_n (zfg_n zfg_e)))
  · have H := zif_t q H
    refine V_iconst (v := -1) (by decide) eX0_force_10 ?_
    refine V_goto eX0_force_11 ?_
    exact V_fg2 (b_X0_force_32 H) (zfg_n (zfg_n (zfg_n zfg_e)))
def d_X0_why_59 (w : Wd) (F : Nat) (s0 : Int32) : M Int32 :=
  zrt s0
def o_X0_why (w : Wd) (F : Nat) (x : Nat) (a1 : Int32) (a2 : Int32) : M Int32 :=
  zbd (o_X0_in w F a1 (0 : Int32) (6 : Int32)) fun v1 =>
  zif (v1 = 0) (zrt (-1 : Int32))
  (zbd (o_X0_isDay w F a2) fun v2 =>
  zif (v2 = 0) (zrt (-2 : Int32))
  (zbd (zv1 0 (some x) (fun a => o_X0_orderFor w F a a1 a2)) fun v3 =>
  zif (v3 = (-1 : Int32)) (d_X0_why_59 w F (-5 : Int32))
  (zbd (zgR f_X0_orders (some x)) fun v4 =>
  zbd (zv1 30 v4 (fun a => o_J2_get w F a v3)) fun v5 =>
  zbd (zcc y_X4 v5) fun _ =>
  zbd (zv1 4 v5 (fun a => o_X4_last w F a a1)) fun v6 =>
  d_X0_why_59 w F (((100 : Int32) * v3) + v6))))
theorem b_X0_why_59 {w : Wd} {F : Nat} {s0 : Int32} {h h1 : Hp} {y : Int32} {c s : Nat} (H : d_X0_why_59 w F s0 h = some (y, h1, c, s)) : V w mX0_why cX0_why 5 c s h 59 [none, none, none, none] [.int s0] (Ro (oI y) h1) := by
  unfold d_X0_why_59 at H
  obtain ⟨rfl, rfl, rfl, rfl⟩ := zrt_ok H
  exact V_ireturn eX0_why_59 rfl ⟨rfl, rfl⟩
theorem c_X0_why {w : Wd} {F : Nat} {x : Nat} {a1 : Int32} {a2 : Int32} {h h1 : Hp} {y : Int32} {c s : Nat} (H : o_X0_why w F x a1 a2 h = some (y, h1, c, s)) : Con w mX0_why cX0_why 5 c s [.ref x, .int a1, .int a2] h (Ro (oI y) h1) := by
  unfold o_X0_why at H
  refine Con.of (ls := [some (va_rf (some x)), some (.int a1), some (.int a2), none]) (by decide +kernel) rfl rfl ?_
  refine V_iload1 eX0_why_0 ?_
  refine V_iconst (v := 0) (by decide) eX0_why_1 ?_
  refine V_bipush (v := 6) (by decide) eX0_why_2 ?_
  refine D_callI (pc' := 7) (st := []) H (fun v h' c1 s1 e cb sb k => ?_) (fun v1 h c s H => ?_)
  · exact V_invokestatic eX0_why_4 lmX0_in q149 q150 (c_X0_in e) (hRet_oI _ _) rfl rfl rfl rfl (kOI k)
  refine V_ifne eX0_why_7 (fun q => ?_) (fun q => ?_)
  · have H := zif_f q H
    refine V_iload2 eX0_why_12 ?_
    refine D_callI (pc' := 16) (st := []) H (fun v h' c1 s1 e cb sb k => ?_) (fun v2 h c s H => ?_)
    · exact V_invokestatic eX0_why_13 lmX0_isDay q293 q294 (c_X0_isDay e) (hRet_oI _ _) rfl rfl rfl rfl (kOI k)
    refine V_ifne eX0_why_16 (fun q => ?_) (fun q => ?_)
    · have H := zif_f q H
      refine V_aload0 eX0_why_22 (zrf_rf _) ?_
      refine V_iload1 eX0_why_23 ?_
      refine V_iload2 eX0_why_24 ?_
      refine D_callI (pc' := 28) (st := []) H (fun v h' c1 s1 e cb sb k => ?_) (fun v3 h c s H => ?_)
      · obtain ⟨a, hr, ha, hk, e9⟩ := zv1_ok e
        cases hr
        exact V_invokevirtual (k := 0) eX0_why_25 lmX0_orderFor q538 q540 rfl rfl qs17 ha hk (c_X0_orderFor e9) (hRet_oI _ _) rfl rfl rfl rfl (kOI k)
      refine V_istore3 rfl eX0_why_28 rfl ?_
      refine V_iload3 eX0_why_29 ?_
      refine V_iconst (v := -1) (by decide) eX0_why_30 ?_
      refine V_if_icmpne eX0_why_31 (fun q => ?_) (fun q => ?_)
      · have H := zif_f q H
        refine V_bipush (v := 100) (by decide) eX0_why_39 ?_
        refine V_iload3 eX0_why_41 ?_
        refine V_imul eX0_why_42 ?_
        refine V_aload0 eX0_why_43 (zrf_rf _) ?_
        refine D_gR eX0_why_44 fq_X0_77_tR H (fun v4 H => ?_)
        refine V_iload3 eX0_why_47 ?_
        refine D_callR (pc' := 51) (st := [.int ((100 : Int32) * v3)]) H (fun v h' c1 s1 e cb sb k => ?_) (fun v5 h c s H => ?_)
        · obtain ⟨a, hr, ha, hk, e9⟩ := zv1_ok e
          cases hr
          exact V_invokevirtual (k := 30) eX0_why_48 lmJ2_get q160 q161 rfl rfl q162 ha hk (c_J2_get e9) (hRet_oR _ _) rfl rfl rfl rfl (kOR k)
        refine D_cast eX0_why_51 q542 y_X4_ok H (fun H => ?_)
        refine V_iload1 eX0_why_54 ?_
        refine D_callI (pc' := 58) (st := [.int ((100 : Int32) * v3)]) H (fun v h' c1 s1 e cb sb k => ?_) (fun v6 h c s H => ?_)
        · obtain ⟨a, hr, ha, hk, e9⟩ := zv1_ok e
          cases hr
          exact V_invokevirtual (k := 4) eX0_why_55 lmX4_last q543 q544 rfl rfl q545 ha hk (c_X4_last e9) (hRet_oI _ _) rfl rfl rfl rfl (kOI k)
        refine V_iadd eX0_why_58 ?_
        exact V_fg2 (b_X0_why_59 H) (zfg_n (zfg_n (zfg_n (zfg_n zfg_e))))
      · have H := zif_t q H
        refine V_bipush (v := -5) (by decide) eX0_why_34 ?_
        refine V_goto eX0_why_36 ?_
        exact V_fg2 (b_X0_why_59 H) (zfg_n (zfg_n (zfg_n (zfg_n zfg_e))))
    · have H := zif_t q H
      refine V_bipush (v := -2) (by decide) eX0_why_19 ?_
      obtain ⟨rfl, rfl, rfl, rfl⟩ := zrt_ok H
      exact V_ireturn eX0_why_21 rfl ⟨rfl, rfl⟩
  · have H := zif_t q H
    refine V_iconst (v := -1) (by decide) eX0_why_10 ?_
    obtain ⟨rfl, rfl, rfl, rfl⟩ := zrt_ok H
    exact V_ireturn eX0_why_11 rfl ⟨rfl, rfl⟩
theorem fn_X1_init_3 : FN mX1_init 3 f_X1_this_0 := by
  intro k j e
  unfold f_X1_this_0 at e
  split at e
  · cases e; exact Or.inr ⟨rfl, rfl, rfl, _, q573, rfl⟩
  · cases e
theorem fn_X1_init_17 : FN mX1_init 17 f_X1_words := by
  intro k j e
  unfold f_X1_words at e
  split at e
  · cases e; exact Or.inr ⟨rfl, rfl, rfl, _, q569, rfl⟩
  · cases e
theorem fn_X1_init_21 : FN mX1_init 21 f_X1_letters := by
  intro k j e
  unfold f_X1_letters at e
  split at e
  · cases e; exact Or.inr ⟨rfl, rfl, rfl, _, q570, rfl⟩
  · cases e
def o_X1_init (w : Wd) (F : Nat) (x : Nat) (a1 : Option Nat) : M Unit :=
  zbd (zpR f_X1_this_0 (some x) a1) fun _ =>
  zbd (znA 600 15 (7 : Int32)) fun n2 =>
  zbd (znA 300 16 (5 : Int32)) fun n3 =>
  zbd (zsI 4 n3 (0 : Int32) (((115 : Int32)).toUInt32 % 65536).toInt32) fun _ =>
  zbd (zsI 4 n3 (1 : Int32) (((108 : Int32)).toUInt32 % 65536).toInt32) fun _ =>
  zbd (zsI 4 n3 (2 : Int32) (((111 : Int32)).toUInt32 % 65536).toInt32) fun _ =>
  zbd (zsI 4 n3 (3 : Int32) (((112 : Int32)).toUInt32 % 65536).toInt32) fun _ =>
  zbd (zsI 4 n3 (4 : Int32) (((101 : Int32)).toUInt32 % 65536).toInt32) fun _ =>
  zbd (zsR 10 n2 (0 : Int32) n3) fun _ =>
  zbd (znA 300 16 (5 : Int32)) fun n4 =>
  zbd (zsI 4 n4 (0 : Int32) (((99 : Int32)).toUInt32 % 65536).toInt32) fun _ =>
  zbd (zsI 4 n4 (1 : Int32) (((108 : Int32)).toUInt32 % 65536).toInt32) fun _ =>
  zbd (zsI 4 n4 (2 : Int32) (((111 : Int32)).toUInt32 % 65536).toInt32) fun _ =>
  zbd (zsI 4 n4 (3 : Int32) (((115 : Int32)).toUInt32 % 65536).toInt32) fun _ =>
  zbd (zsI 4 n4 (4 : Int32) (((101 : Int32)).toUInt32 % 65536).toInt32) fun _ =>
  zbd (zsR 10 n2 (1 : Int32) n4) fun _ =>
  zbd (znA 300 16 (6 : Int32)) fun n5 =>
  zbd (zsI 4 n5 (0 : Int32) (((115 : Int32)).toUInt32 % 65536).toInt32) fun _ =>
  zbd (zsI 4 n5 (1 : Int32) (((116 : Int32)).toUInt32 % 65536).toInt32) fun _ =>
  zbd (zsI 4 n5 (2 : Int32) (((114 : Int32)).toUInt32 % 65536).toInt32) fun _ =>
  zbd (zsI 4 n5 (3 : Int32) (((111 : Int32)).toUInt32 % 65536).toInt32) fun _ =>
  zbd (zsI 4 n5 (4 : Int32) (((107 : Int32)).toUInt32 % 65536).toInt32) fun _ =>
  zbd (zsI 4 n5 (5 : Int32) (((101 : Int32)).toUInt32 % 65536).toInt32) fun _ =>
  zbd (zsR 10 n2 (2 : Int32) n5) fun _ =>
  zbd (znA 300 16 (4 : Int32)) fun n6 =>
  zbd (zsI 4 n6 (0 : Int32) (((99 : Int32)).toUInt32 % 65536).toInt32) fun _ =>
  zbd (zsI 4 n6 (1 : Int32) (((97 : Int32)).toUInt32 % 65536).toInt32) fun _ =>
  zbd (zsI 4 n6 (2 : Int32) (((108 : Int32)).toUInt32 % 65536).toInt32) fun _ =>
  zbd (zsI 4 n6 (3 : Int32) (((108 : Int32)).toUInt32 % 65536).toInt32) fun _ =>
  zbd (zsR 10 n2 (3 : Int32) n6) fun _ =>
  zbd (znA 300 16 (3 : Int32)) fun n7 =>
  zbd (zsI 4 n7 (0 : Int32) (((103 : Int32)).toUInt32 % 65536).toInt32) fun _ =>
  zbd (zsI 4 n7 (1 : Int32) (((97 : Int32)).toUInt32 % 65536).toInt32) fun _ =>
  zbd (zsI 4 n7 (2 : Int32) (((112 : Int32)).toUInt32 % 65536).toInt32) fun _ =>
  zbd (zsR 10 n2 (4 : Int32) n7) fun _ =>
  zbd (znA 300 16 (4 : Int32)) fun n8 =>
  zbd (zsI 4 n8 (0 : Int32) (((112 : Int32)).toUInt32 % 65536).toInt32) fun _ =>
  zbd (zsI 4 n8 (1 : Int32) (((97 : Int32)).toUInt32 % 65536).toInt32) fun _ =>
  zbd (zsI 4 n8 (2 : Int32) (((114 : Int32)).toUInt32 % 65536).toInt32) fun _ =>
  zbd (zsI 4 n8 (3 : Int32) (((107 : Int32)).toUInt32 % 65536).toInt32) fun _ =>
  zbd (zsR 10 n2 (5 : Int32) n8) fun _ =>
  zbd (znA 300 16 (3 : Int32)) fun n9 =>
  zbd (zsI 4 n9 (0 : Int32) (((108 : Int32)).toUInt32 % 65536).toInt32) fun _ =>
  zbd (zsI 4 n9 (1 : Int32) (((101 : Int32)).toUInt32 % 65536).toInt32) fun _ =>
  zbd (zsI 4 n9 (2 : Int32) (((116 : Int32)).toUInt32 % 65536).toInt32) fun _ =>
  zbd (zsR 10 n2 (6 : Int32) n9) fun _ =>
  zbd (zpR f_X1_words (some x) n2) fun _ =>
  zbd (znA 300 17 (5 : Int32)) fun n10 =>
  zbd (zsI 4 n10 (0 : Int32) (((121 : Int32)).toUInt32 % 65536).toInt32) fun _ =>
  zbd (zsI 4 n10 (1 : Int32) (((116 : Int32)).toUInt32 % 65536).toInt32) fun _ =>
  zbd (zsI 4 n10 (2 : Int32) (((119 : Int32)).toUInt32 % 65536).toInt32) fun _ =>
  zbd (zsI 4 n10 (3 : Int32) (((114 : Int32)).toUInt32 % 65536).toInt32) fun _ =>
  zbd (zsI 4 n10 (4 : Int32) (((99 : Int32)).toUInt32 % 65536).toInt32) fun _ =>
  zbd (zpR f_X1_letters (some x) n10) fun _ =>
  zrt ()
theorem c_X1_init {w : Wd} {F : Nat} {x : Nat} {a1 : Option Nat} {h h1 : Hp} {y : Unit} {c s : Nat} (H : o_X1_init w F x a1 h = some (y, h1, c, s)) : Con w mX1_init cX1_init 1 c s [.ref x, va_rf a1] h (Ro (oU y) h1) := by
  unfold o_X1_init at H
  refine Con.of (ls := [some (va_rf (some x)), some (va_rf a1)]) (by decide +kernel) (by simp only [zsl_r, zsl_i, zsl_l, zsl_n, zsl_a]; rfl) (by simp only [zar_r, zar_i, zar_l, zar_n, zar_a]; rfl) ?_
  refine V_aload0 eX1_init_0 (zrf_rf _) ?_
  refine V_aload1 eX1_init_1 (zrf_rf _) ?_
  refine D_pR eX1_init_2 fq_X1_3_tR fn_X1_init_3 H (fun h H => ?_)
  refine V_aload0 eX1_init_5 (zrf_rf _) ?_
  refine V_objectinit eX1_init_6 q566 q180 q181 rfl rfl ?_
  refine V_aload0 eX1_init_9 (zrf_rf _) ?_
  refine V_bipush (v := 7) (by decide) eX1_init_10 ?_
  refine D_anewarray (g := 15) (κ := 600) (cT := 10) eX1_init_12 rfl rfl (Or.inr ⟨_, rfl, q567⟩) q568 H (fun n2 h c s H => ?_)
  refine V_dup (zcr _) eX1_init_15 ?_
  refine V_iconst (v := 0) (by decide) eX1_init_16 ?_
  refine V_iconst (v := 5) (by decide) eX1_init_17 ?_
  refine D_newarray (g := 16) (κ := 300) (cT := 4) eX1_init_18 rfl rfl rfl q588 rfl (by decide) H (fun n3 h c s H => ?_)
  refine V_dup (zcr _) eX1_init_20 ?_
  refine V_iconst (v := 0) (by decide) eX1_init_21 ?_
  refine V_bipush (v := 115) (by decide) eX1_init_22 ?_
  refine D_castore eX1_init_24 H (fun h H => ?_)
  refine V_dup (zcr _) eX1_init_25 ?_
  refine V_iconst (v := 1) (by decide) eX1_init_26 ?_
  refine V_bipush (v := 108) (by decide) eX1_init_27 ?_
  refine D_castore eX1_init_29 H (fun h H => ?_)
  refine V_dup (zcr _) eX1_init_30 ?_
  refine V_iconst (v := 2) (by decide) eX1_init_31 ?_
  refine V_bipush (v := 111) (by decide) eX1_init_32 ?_
  refine D_castore eX1_init_34 H (fun h H => ?_)
  refine V_dup (zcr _) eX1_init_35 ?_
  refine V_iconst (v := 3) (by decide) eX1_init_36 ?_
  refine V_bipush (v := 112) (by decide) eX1_init_37 ?_
  refine D_castore eX1_init_39 H (fun h H => ?_)
  refine V_dup (zcr _) eX1_init_40 ?_
  refine V_iconst (v := 4) (by decide) eX1_init_41 ?_
  refine V_bipush (v := 101) (by decide) eX1_init_42 ?_
  refine D_castore eX1_init_44 H (fun h H => ?_)
  refine D_aastore eX1_init_45 H (fun h H => ?_)
  refine V_dup (zcr _) eX1_init_46 ?_
  refine V_iconst (v := 1) (by decide) eX1_init_47 ?_
  refine V_iconst (v := 5) (by decide) eX1_init_48 ?_
  refine D_newarray (g := 16) (κ := 300) (cT := 4) eX1_init_49 rfl rfl rfl q588 rfl (by decide) H (fun n4 h c s H => ?_)
  refine V_dup (zcr _) eX1_init_51 ?_
  refine V_iconst (v := 0) (by decide) eX1_init_52 ?_
  refine V_bipush (v := 99) (by decide) eX1_init_53 ?_
  refine D_castore eX1_init_55 H (fun h H => ?_)
  refine V_dup (zcr _) eX1_init_56 ?_
  refine V_iconst (v := 1) (by decide) eX1_init_57 ?_
  refine V_bipush (v := 108) (by decide) eX1_init_58 ?_
  refine D_castore eX1_init_60 H (fun h H => ?_)
  refine V_dup (zcr _) eX1_init_61 ?_
  refine V_iconst (v := 2) (by decide) eX1_init_62 ?_
  refine V_bipush (v := 111) (by decide) eX1_init_63 ?_
  refine D_castore eX1_init_65 H (fun h H => ?_)
  refine V_dup (zcr _) eX1_init_66 ?_
  refine V_iconst (v := 3) (by decide) eX1_init_67 ?_
  refine V_bipush (v := 115) (by decide) eX1_init_68 ?_
  refine D_castore eX1_init_70 H (fun h H => ?_)
  refine V_dup (zcr _) eX1_init_71 ?_
  refine V_iconst (v := 4) (by decide) eX1_init_72 ?_
  refine V_bipush (v := 101) (by decide) eX1_init_73 ?_
  refine D_castore eX1_init_75 H (fun h H => ?_)
  refine D_aastore eX1_init_76 H (fun h H => ?_)
  refine V_dup (zcr _) eX1_init_77 ?_
  refine V_iconst (v := 2) (by decide) eX1_init_78 ?_
  refine V_bipush (v := 6) (by decide) eX1_init_79 ?_
  refine D_newarray (g := 16) (κ := 300) (cT := 4) eX1_init_81 rfl rfl rfl q588 rfl (by decide) H (fun n5 h c s H => ?_)
  refine V_dup (zcr _) eX1_init_83 ?_
  refine V_iconst (v := 0) (by decide) eX1_init_84 ?_
  refine V_bipush (v := 115) (by decide) eX1_init_85 ?_
  refine D_castore eX1_init_87 H (fun h H => ?_)
  refine V_dup (zcr _) eX1_init_88 ?_
  refine V_iconst (v := 1) (by decide) eX1_init_89 ?_
  refine V_bipush (v := 116) (by decide) eX1_init_90 ?_
  refine D_castore eX1_init_92 H (fun h H => ?_)
  refine V_dup (zcr _) eX1_init_93 ?_
  refine V_iconst (v := 2) (by decide) eX1_init_94 ?_
  refine V_bipush (v := 114) (by decide) eX1_init_95 ?_
  refine D_castore eX1_init_97 H (fun h H => ?_)
  refine V_dup (zcr _) eX1_init_98 ?_
  refine V_iconst (v := 3) (by decide) eX1_init_99 ?_
  refine V_bipush (v := 111) (by decide) eX1_init_100 ?_
  refine D_castore eX1_init_102 H (fun h H => ?_)
  refine V_dup (zcr _) eX1_init_103 ?_
  refine V_iconst (v := 4) (by decide) eX1_init_104 ?_
  refine V_bipush (v := 107) (by decide) eX1_init_105 ?_
  refine D_castore eX1_init_107 H (fun h H => ?_)
  refine V_dup (zcr _) eX1_init_108 ?_
  refine V_iconst (v := 5) (by decide) eX1_init_109 ?_
  refine V_bipush (v := 101) (by decide) eX1_init_110 ?_
  refine D_castore eX1_init_112 H (fun h H => ?_)
  refine D_aastore eX1_init_113 H (fun h H => ?_)
  refine V_dup (zcr _) eX1_init_114 ?_
  refine V_iconst (v := 3) (by decide) eX1_init_115 ?_
  refine V_iconst (v := 4) (by decide) eX1_init_116 ?_
  refine D_newarray (g := 16) (κ := 300) (cT := 4) eX1_init_117 rfl rfl rfl q588 rfl (by decide) H (fun n6 h c s H => ?_)
  refine V_dup (zcr _) eX1_init_119 ?_
  refine V_iconst (v := 0) (by decide) eX1_init_120 ?_
  refine V_bipush (v := 99) (by decide) eX1_init_121 ?_
  refine D_castore eX1_init_123 H (fun h H => ?_)
  refine V_dup (zcr _) eX1_init_124 ?_
  refine V_iconst (v := 1) (by decide) eX1_init_125 ?_
  refine V_bipush (v := 97) (by decide) eX1_init_126 ?_
  refine D_castore eX1_init_128 H (fun h H => ?_)
  refine V_dup (zcr _) eX1_init_129 ?_
  refine V_iconst (v := 2) (by decide) eX1_init_130 ?_
  refine V_bipush (v := 108) (by decide) eX1_init_131 ?_
  refine D_castore eX1_init_133 H (fun h H => ?_)
  refine V_dup (zcr _) eX1_init_134 ?_
  refine V_iconst (v := 3) (by decide) eX1_init_135 ?_
  refine V_bipush (v := 108) (by decide) eX1_init_136 ?_
  refine D_castore eX1_init_138 H (fun h H => ?_)
  refine D_aastore eX1_init_139 H (fun h H => ?_)
  refine V_dup (zcr _) eX1_init_140 ?_
  refine V_iconst (v := 4) (by decide) eX1_init_141 ?_
  refine V_iconst (v := 3) (by decide) eX1_init_142 ?_
  refine D_newarray (g := 16) (κ := 300) (cT := 4) eX1_init_143 rfl rfl rfl q588 rfl (by decide) H (fun n7 h c s H => ?_)
  refine V_dup (zcr _) eX1_init_145 ?_
  refine V_iconst (v := 0) (by decide) eX1_init_146 ?_
  refine V_bipush (v := 103) (by decide) eX1_init_147 ?_
  refine D_castore eX1_init_149 H (fun h H => ?_)
  refine V_dup (zcr _) eX1_init_150 ?_
  refine V_iconst (v := 1) (by decide) eX1_init_151 ?_
  refine V_bipush (v := 97) (by decide) eX1_init_152 ?_
  refine D_castore eX1_init_154 H (fun h H => ?_)
  refine V_dup (zcr _) eX1_init_155 ?_
  refine V_iconst (v := 2) (by decide) eX1_init_156 ?_
  refine V_bipush (v := 112) (by decide) eX1_init_157 ?_
  refine D_castore eX1_init_159 H (fun h H => ?_)
  refine D_aastore eX1_init_160 H (fun h H => ?_)
  refine V_dup (zcr _) eX1_init_161 ?_
  refine V_iconst (v := 5) (by decide) eX1_init_162 ?_
  refine V_iconst (v := 4) (by decide) eX1_init_163 ?_
  refine D_newarray (g := 16) (κ := 300) (cT := 4) eX1_init_164 rfl rfl rfl q588 rfl (by decide) H (fun n8 h c s H => ?_)
  refine V_dup (zcr _) eX1_init_166 ?_
  refine V_iconst (v := 0) (by decide) eX1_init_167 ?_
  refine V_bipush (v := 112) (by decide) eX1_init_168 ?_
  refine D_castore eX1_init_170 H (fun h H => ?_)
  refine V_dup (zcr _) eX1_init_171 ?_
  refine V_iconst (v := 1) (by decide) eX1_init_172 ?_
  refine V_bipush (v := 97) (by decide) eX1_init_173 ?_
  refine D_castore eX1_init_175 H (fun h H => ?_)
  refine V_dup (zcr _) eX1_init_176 ?_
  refine V_iconst (v := 2) (by decide) eX1_init_177 ?_
  refine V_bipush (v := 114) (by decide) eX1_init_178 ?_
  refine D_castore eX1_init_180 H (fun h H => ?_)
  refine V_dup (zcr _) eX1_init_181 ?_
  refine V_iconst (v := 3) (by decide) eX1_init_182 ?_
  refine V_bipush (v := 107) (by decide) eX1_init_183 ?_
  refine D_castore eX1_init_185 H (fun h H => ?_)
  refine D_aastore eX1_init_186 H (fun h H => ?_)
  refine V_dup (zcr _) eX1_init_187 ?_
  refine V_bipush (v := 6) (by decide) eX1_init_188 ?_
  refine V_iconst (v := 3) (by decide) eX1_init_190 ?_
  refine D_newarray (g := 16) (κ := 300) (cT := 4) eX1_init_191 rfl rfl rfl q588 rfl (by decide) H (fun n9 h c s H => ?_)
  refine V_dup (zcr _) eX1_init_193 ?_
  refine V_iconst (v := 0) (by decide) eX1_init_194 ?_
  refine V_bipush (v := 108) (by decide) eX1_init_195 ?_
  refine D_castore eX1_init_197 H (fun h H => ?_)
  refine V_dup (zcr _) eX1_init_198 ?_
  refine V_iconst (v := 1) (by decide) eX1_init_199 ?_
  refine V_bipush (v := 101) (by decide) eX1_init_200 ?_
  refine D_castore eX1_init_202 H (fun h H => ?_)
  refine V_dup (zcr _) eX1_init_203 ?_
  refine V_iconst (v := 2) (by decide) eX1_init_204 ?_
  refine V_bipush (v := 116) (by decide) eX1_init_205 ?_
  refine D_castore eX1_init_207 H (fun h H => ?_)
  refine D_aastore eX1_init_208 H (fun h H => ?_)
  refine D_pR eX1_init_209 fq_X1_17_tR fn_X1_init_17 H (fun h H => ?_)
  refine V_aload0 eX1_init_212 (zrf_rf _) ?_
  refine V_iconst (v := 5) (by decide) eX1_init_213 ?_
  refine D_newarray (g := 17) (κ := 300) (cT := 4) eX1_init_214 rfl rfl rfl q588 rfl (by decide) H (fun n10 h c s H => ?_)
  refine V_dup (zcr _) eX1_init_216 ?_
  refine V_iconst (v := 0) (by decide) eX1_init_217 ?_
  refine V_bipush (v := 121) (by decide) eX1_init_218 ?_
  refine D_castore eX1_init_220 H (fun h H => ?_)
  refine V_dup (zcr _) eX1_init_221 ?_
  refine V_iconst (v := 1) (by decide) eX1_init_222 ?_
  refine V_bipush (v := 116) (by decide) eX1_init_223 ?_
  refine D_castore eX1_init_225 H (fun h H => ?_)
  refine V_dup (zcr _) eX1_init_226 ?_
  refine V_iconst (v := 2) (by decide) eX1_init_227 ?_
  refine V_bipush (v := 119) (by decide) eX1_init_228 ?_
  refine D_castore eX1_init_230 H (fun h H => ?_)
  refine V_dup (zcr _) eX1_init_231 ?_
  refine V_iconst (v := 3) (by decide) eX1_init_232 ?_
  refine V_bipush (v := 114) (by decide) eX1_init_233 ?_
  refine D_castore eX1_init_235 H (fun h H => ?_)
  refine V_dup (zcr _) eX1_init_236 ?_
  refine V_iconst (v := 4) (by decide) eX1_init_237 ?_
  refine V_bipush (v := 99) (by decide) eX1_init_238 ?_
  refine D_castore eX1_init_240 H (fun h H => ?_)
  refine D_pR eX1_init_241 fq_X1_21_tR fn_X1_init_21 H (fun h H => ?_)
  obtain ⟨rfl, rfl, rfl, rfl⟩ := zrt_ok H
  exact V_return (x := ()) eX1_init_244 rfl ⟨rfl, rfl⟩
theorem fn_X0_init_13 : FN mX0_init 13 f_X0_height := by
  intro k j e
  unfold f_X0_height at e
  split at e
  · cases e; exact Or.inl rfl
  · cases e
theorem fn_X0_init_21 : FN mX0_init 21 f_X0_kind := by
  intro k j e
  unfold f_X0_kind at e
  split at e
  · cases e; exact Or.inl rfl
  · cases e
theorem fn_X0_init_28 : FN mX0_init 28 f_X0_towns := by
  intro k j e
  unfold f_X0_towns at e
  split at e
  · cases e; exact Or.inr ⟨rfl, rfl, rfl, _, q598, rfl⟩
  · cases e
theorem fn_X0_init_60 : FN mX0_init 60 f_X0_coins := by
  intro k j e
  unfold f_X0_coins at e
  split at e
  · cases e; exact Or.inl rfl
  · cases e
theorem fn_X0_init_70 : FN mX0_init 70 f_X0_tape := by
  intro k j e
  unfold f_X0_tape at e
  split at e
  · cases e; exact Or.inl rfl
  · cases e
theorem fn_X0_init_77 : FN mX0_init 77 f_X0_orders := by
  intro k j e
  unfold f_X0_orders at e
  split at e
  · cases e; exact Or.inr ⟨rfl, rfl, rfl, _, q613, rfl⟩
  · cases e
theorem fn_X0_init_80 : FN mX0_init 80 f_X0_reader := by
  intro k j e
  unfold f_X0_reader at e
  split at e
  · cases e; exact Or.inr ⟨rfl, rfl, rfl, _, q614, rfl⟩
  · cases e
def f_X0_papers : Nat → Option Nat := fun k => match k with
  | 0 => some 10
  | _ => none
theorem fq_X0_121_tR : FQ RX0 121 f_X0_papers tR := by
  intro k j e
  unfold f_X0_papers at e
  split at e
  · cases e; exact ⟨fl_X0_121_0, Or.inl ⟨_, rfl⟩⟩
  · cases e
theorem fn_X0_init_121 : FN mX0_init 121 f_X0_papers := by
  intro k j e
  unfold f_X0_papers at e
  split at e
  · cases e; exact Or.inr ⟨rfl, rfl, rfl, _, q617, rfl⟩
  · cases e
def f_X0_toEnd : Nat → Option Nat := fun k => match k with
  | 0 => some 12
  | _ => none
theorem fq_X0_148_tR : FQ RX0 148 f_X0_toEnd tR := by
  intro k j e
  unfold f_X0_toEnd at e
  split at e
  · cases e; exact ⟨fl_X0_148_0, Or.inr ⟨_, rfl⟩⟩
  · cases e
theorem fn_X0_init_148 : FN mX0_init 148 f_X0_toEnd := by
  intro k j e
  unfold f_X0_toEnd at e
  split at e
  · cases e; exact Or.inr ⟨rfl, rfl, rfl, _, q621, rfl⟩
  · cases e
def f_X0_least : Nat → Option Nat := fun k => match k with
  | 0 => some 13
  | _ => none
theorem fq_X0_151_tR : FQ RX0 151 f_X0_least tR := by
  intro k j e
  unfold f_X0_least at e
  split at e
  · cases e; exact ⟨fl_X0_151_0, Or.inr ⟨_, rfl⟩⟩
  · cases e
theorem fn_X0_init_151 : FN mX0_init 151 f_X0_least := by
  intro k j e
  unfold f_X0_least at e
  split at e
  · cases e; exact Or.inr ⟨rfl, rfl, rfl, _, q622, rfl⟩
  · cases e
def f_X0_votes : Nat → Option Nat := fun k => match k with
  | 0 => some 15
  | _ => none
theorem fq_X0_154_tR : FQ RX0 154 f_X0_votes tR := by
  intro k j e
  unfold f_X0_votes at e
  split at e
  · cases e; exact ⟨fl_X0_154_0, Or.inl ⟨_, rfl⟩⟩
  · cases e
theorem fn_X0_init_154 : FN mX0_init 154 f_X0_votes := by
  intro k j e
  unfold f_X0_votes at e
  split at e
  · cases e; exact Or.inr ⟨rfl, rfl, rfl, _, q625, rfl⟩
  · cases e
def f_X0_survey : Nat → Option Nat := fun k => match k with
  | 0 => some 16
  | _ => none
theorem fq_X0_157_tR : FQ RX0 157 f_X0_survey tR := by
  intro k j e
  unfold f_X0_survey at e
  split at e
  · cases e; exact ⟨fl_X0_157_0, Or.inr ⟨_, rfl⟩⟩
  · cases e
theorem fn_X0_init_157 : FN mX0_init 157 f_X0_survey := by
  intro k j e
  unfold f_X0_survey at e
  split at e
  · cases e; exact Or.inl rfl
  · cases e
def f_X0_press : Nat → Option Nat := fun k => match k with
  | 0 => some 17
  | _ => none
theorem fq_X0_160_tR : FQ RX0 160 f_X0_press tR := by
  intro k j e
  unfold f_X0_press at e
  split at e
  · cases e; exact ⟨fl_X0_160_0, Or.inr ⟨_, rfl⟩⟩
  · cases e
theorem fn_X0_init_160 : FN mX0_init 160 f_X0_press := by
  intro k j e
  unfold f_X0_press at e
  split at e
  · cases e; exact Or.inl rfl
  · cases e
def f_X0_row : Nat → Option Nat := fun k => match k with
  | 0 => some 19
  | _ => none
theorem fq_X0_163_tR : FQ RX0 163 f_X0_row tR := by
  intro k j e
  unfold f_X0_row at e
  split at e
  · cases e; exact ⟨fl_X0_163_0, Or.inr ⟨_, rfl⟩⟩
  · cases e
theorem fn_X0_init_163 : FN mX0_init 163 f_X0_row := by
  intro k j e
  unfold f_X0_row at e
  split at e
  · cases e; exact Or.inr ⟨rfl, rfl, rfl, _, q632, rfl⟩
  · cases e
def f_X0_bestRow : Nat → Option Nat := fun k => match k with
  | 0 => some 20
  | _ => none
theorem fq_X0_166_tR : FQ RX0 166 f_X0_bestRow tR := by
  intro k j e
  unfold f_X0_bestRow at e
  split at e
  · cases e; exact ⟨fl_X0_166_0, Or.inr ⟨_, rfl⟩⟩
  · cases e
theorem fn_X0_init_166 : FN mX0_init 166 f_X0_bestRow := by
  intro k j e
  unfold f_X0_bestRow at e
  split at e
  · cases e; exact Or.inr ⟨rfl, rfl, rfl, _, q633, rfl⟩
  · cases e
def f_X0_standing : Nat → Option Nat := fun k => match k with
  | 0 => some 22
  | _ => none
theorem fq_X0_169_tR : FQ RX0 169 f_X0_standing tR := by
  intro k j e
  unfold f_X0_standing at e
  split at e
  · cases e; exact ⟨fl_X0_169_0, Or.inl ⟨_, rfl⟩⟩
  · cases e
theorem fn_X0_init_169 : FN mX0_init 169 f_X0_standing := by
  intro k j e
  unfold f_X0_standing at e
  split at e
  · cases e; exact Or.inr ⟨rfl, rfl, rfl, _, q636, rfl⟩
  · cases e
def f_X0_known : Nat → Option Nat := fun k => match k with
  | 0 => some 23
  | _ => none
theorem fq_X0_173_tR : FQ RX0 173 f_X0_known tR := by
  intro k j e
  unfold f_X0_known at e
  split at e
  · cases e; exact ⟨fl_X0_173_0, Or.inr ⟨_, rfl⟩⟩
  · cases e
theorem fn_X0_init_173 : FN mX0_init 173 f_X0_known := by
  intro k j e
  unfold f_X0_known at e
  split at e
  · cases e; exact Or.inr ⟨rfl, rfl, rfl, _, q637, rfl⟩
  · cases e
def f_X0_sheets : Nat → Option Nat := fun k => match k with
  | 0 => some 26
  | _ => none
theorem fq_X0_179_tR : FQ RX0 179 f_X0_sheets tR := by
  intro k j e
  unfold f_X0_sheets at e
  split at e
  · cases e; exact ⟨fl_X0_179_0, Or.inr ⟨_, rfl⟩⟩
  · cases e
theorem fn_X0_init_179 : FN mX0_init 179 f_X0_sheets := by
  intro k j e
  unfold f_X0_sheets at e
  split at e
  · cases e; exact Or.inr ⟨rfl, rfl, rfl, _, q641, rfl⟩
  · cases e
def o_X0_init (w : Wd) (F : Nat) (x : Nat) : M Unit :=
  zbd (znA 100 1 (80 : Int32)) fun n2 =>
  zbd (zpR f_X0_height (some x) n2) fun _ =>
  zbd (znA 100 2 (80 : Int32)) fun n3 =>
  zbd (zpR f_X0_kind (some x) n3) fun _ =>
  zbd (znw 30 1 3) fun n4 =>
  zbd (znn n4 (fun a => o_J2_init w F a)) fun _ =>
  zbd (zpR f_X0_towns (some x) n4) fun _ =>
  zbd (znA 150 3 (8 : Int32)) fun n6 =>
  zbd (zpR f_X0_coins (some x) n6) fun _ =>
  zbd (znA 200 4 (140 : Int32)) fun n7 =>
  zbd (zpR f_X0_tape (some x) n7) fun _ =>
  zbd (znw 30 2 3) fun n8 =>
  zbd (znn n8 (fun a => o_J2_init w F a)) fun _ =>
  zbd (zpR f_X0_orders (some x) n8) fun _ =>
  zbd (znw 1 0 5) fun n10 =>
  zbd (znn n10 (fun a => o_X1_init w F a (some x))) fun _ =>
  zbd (zpR f_X0_reader (some x) n10) fun _ =>
  zbd (znw 30 3 3) fun n12 =>
  zbd (znn n12 (fun a => o_J2_init w F a)) fun _ =>
  zbd (zpR f_X0_papers (some x) n12) fun _ =>
  zbd (znA 100 5 (80 : Int32)) fun n14 =>
  zbd (zpR f_X0_toEnd (some x) n14) fun _ =>
  zbd (znA 100 6 (80 : Int32)) fun n15 =>
  zbd (zpR f_X0_least (some x) n15) fun _ =>
  zbd (znw 30 4 3) fun n16 =>
  zbd (znn n16 (fun a => o_J2_init w F a)) fun _ =>
  zbd (zpR f_X0_votes (some x) n16) fun _ =>
  zbd (znA 100 7 (7 : Int32)) fun n18 =>
  zbd (zpR f_X0_survey (some x) n18) fun _ =>
  zbd (znA 100 8 (7 : Int32)) fun n19 =>
  zbd (zpR f_X0_press (some x) n19) fun _ =>
  zbd (znA 100 9 (7 : Int32)) fun n20 =>
  zbd (zpR f_X0_row (some x) n20) fun _ =>
  zbd (znA 100 10 (7 : Int32)) fun n21 =>
  zbd (zpR f_X0_bestRow (some x) n21) fun _ =>
  zbd (znw 30 5 3) fun n22 =>
  zbd (znn n22 (fun a => o_J2_init w F a)) fun _ =>
  zbd (zpR f_X0_standing (some x) n22) fun _ =>
  zbd (znA 500 11 (1000 : Int32)) fun n24 =>
  zbd (zpR f_X0_known (some x) n24) fun _ =>
  zbd (znA 450 12 (4 : Int32)) fun n25 =>
  zbd (zpR f_X0_sheets (some x) n25) fun _ =>
  zrt ()
theorem c_X0_init {w : Wd} {F : Nat} {x : Nat} {h h1 : Hp} {y : Unit} {c s : Nat} (H : o_X0_init w F x h = some (y, h1, c, s)) : Con w mX0_init cX0_init 4 c s [.ref x] h (Ro (oU y) h1) := by
  unfold o_X0_init at H
  refine Con.of (ls := [some (va_rf (some x))]) (by decide +kernel) rfl rfl ?_
  refine V_aload0 eX0_init_0 (zrf_rf _) ?_
  refine V_objectinit eX0_init_1 q559 q180 q181 rfl rfl ?_
  refine V_aload0 eX0_init_4 (zrf_rf _) ?_
  refine V_bipush (v := 80) (by decide) eX0_init_5 ?_
  refine D_newarray (g := 1) (κ := 100) (cT := 0) eX0_init_7 rfl rfl rfl q585 rfl (by decide) H (fun n2 h c s H => ?_)
  refine D_pR eX0_init_9 fq_X0_13_tR fn_X0_init_13 H (fun h H => ?_)
  refine V_aload0 eX0_init_12 (zrf_rf _) ?_
  refine V_bipush (v := 80) (by decide) eX0_init_13 ?_
  refine D_newarray (g := 2) (κ := 100) (cT := 0) eX0_init_15 rfl rfl rfl q585 rfl (by decide) H (fun n3 h c s H => ?_)
  refine D_pR eX0_init_17 fq_X0_21_tR fn_X0_init_21 H (fun h H => ?_)
  refine V_aload0 eX0_init_20 (zrf_rf _) ?_
  refine D_new (g := 1) eX0_init_21 nl_X0_33 rfl H (fun n4 h c s H => ?_)
  refine V_dup (zcr _) eX0_init_24 ?_
  refine D_callU (pc' := 28) (st := [va_rf n4, va_rf (some x)]) H (fun v h' c1 s1 e cb sb k => ?_) (fun v5 h c s H => ?_)
  · obtain ⟨a, hr, e9⟩ := znn_ok e
    cases hr
    exact V_invokeinit eX0_init_25 lmJ2_init rfl rfl q561 q308 (c_J2_init e9) (hRet_oU _ _) rfl rfl rfl (by simp only [List.map_cons, List.map_nil, zcr]; rfl) (kOU k)
  refine D_pR eX0_init_28 fq_X0_28_tR fn_X0_init_28 H (fun h H => ?_)
  refine V_aload0 eX0_init_31 (zrf_rf _) ?_
  refine V_bipush (v := 8) (by decide) eX0_init_32 ?_
  refine D_newarray (g := 3) (κ := 150) (cT := 1) eX0_init_34 rfl rfl rfl q586 rfl (by decide) H (fun n6 h c s H => ?_)
  refine D_pR eX0_init_36 fq_X0_60_tR fn_X0_init_60 H (fun h H => ?_)
  refine V_aload0 eX0_init_39 (zrf_rf _) ?_
  refine V_sipush (v := 140) (by decide) eX0_init_40 ?_
  refine D_newarray (g := 4) (κ := 200) (cT := 2) eX0_init_43 rfl rfl rfl q587 rfl (by decide) H (fun n7 h c s H => ?_)
  refine D_pR eX0_init_45 fq_X0_70_tR fn_X0_init_70 H (fun h H => ?_)
  refine V_aload0 eX0_init_48 (zrf_rf _) ?_
  refine D_new (g := 2) eX0_init_49 nl_X0_33 rfl H (fun n8 h c s H => ?_)
  refine V_dup (zcr _) eX0_init_52 ?_
  refine D_callU (pc' := 56) (st := [va_rf n8, va_rf (some x)]) H (fun v h' c1 s1 e cb sb k => ?_) (fun v9 h c s H => ?_)
  · obtain ⟨a, hr, e9⟩ := znn_ok e
    cases hr
    exact V_invokeinit eX0_init_53 lmJ2_init rfl rfl q561 q308 (c_J2_init e9) (hRet_oU _ _) rfl rfl rfl (by simp only [List.map_cons, List.map_nil, zcr]; rfl) (kOU k)
  refine D_pR eX0_init_56 fq_X0_77_tR fn_X0_init_77 H (fun h H => ?_)
  refine V_aload0 eX0_init_59 (zrf_rf _) ?_
  refine D_new (g := 0) eX0_init_60 nl_X0_85 rfl H (fun n10 h c s H => ?_)
  refine V_dup (zcr _) eX0_init_63 ?_
  refine V_aload0 eX0_init_64 (zrf_rf _) ?_
  refine D_callU (pc' := 68) (st := [va_rf n10, va_rf (some x)]) H (fun v h' c1 s1 e cb sb k => ?_) (fun v11 h c s H => ?_)
  · obtain ⟨a, hr, e9⟩ := znn_ok e
    cases hr
    exact V_invokeinitN eX0_init_65 lmX1_init rfl rfl q563 q564 (c_X1_init e9) (hRet_oU _ _) rfl rfl rfl (by simp only [List.map_cons, List.map_nil, zcr]; rfl) (kOU k)
  refine D_pR eX0_init_68 fq_X0_80_tR fn_X0_init_80 H (fun h H => ?_)
  refine V_aload0 eX0_init_71 (zrf_rf _) ?_
  refine D_new (g := 3) eX0_init_72 nl_X0_33 rfl H (fun n12 h c s H => ?_)
  refine V_dup (zcr _) eX0_init_75 ?_
  refine D_callU (pc' := 79) (st := [va_rf n12, va_rf (some x)]) H (fun v h' c1 s1 e cb sb k => ?_) (fun v13 h c s H => ?_)
  · obtain ⟨a, hr, e9⟩ := znn_ok e
    cases hr
    exact V_invokeinit eX0_init_76 lmJ2_init rfl rfl q561 q308 (c_J2_init e9) (hRet_oU _ _) rfl rfl rfl (by simp only [List.map_cons, List.map_nil, zcr]; rfl) (kOU k)
  refine D_pR eX0_init_79 fq_X0_121_tR fn_X0_init_121 H (fun h H => ?_)
  refine V_aload0 eX0_init_82 (zrf_rf _) ?_
  refine V_bipush (v := 80) (by decide) eX0_init_83 ?_
  refine D_newarray (g := 5) (κ := 100) (cT := 0) eX0_init_85 rfl rfl rfl q585 rfl (by decide) H (fun n14 h c s H => ?_)
  refine D_pR eX0_init_87 fq_X0_148_tR fn_X0_init_148 H (fun h H => ?_)
  refine V_aload0 eX0_init_90 (zrf_rf _) ?_
  refine V_bipush (v := 80) (by decide) eX0_init_91 ?_
  refine D_newarray (g := 6) (κ := 100) (cT := 0) eX0_init_93 rfl rfl rfl q585 rfl (by decide) H (fun n15 h c s H => ?_)
  refine D_pR eX0_init_95 fq_X0_151_tR fn_X0_init_151 H (fun h H => ?_)
  refine V_aload0 eX0_init_98 (zrf_rf _) ?_
  refine D_new (g := 4) eX0_init_99 nl_X0_33 rfl H (fun n16 h c s H => ?_)
  refine V_dup (zcr _) eX0_init_102 ?_
  refine D_callU (pc' := 106) (st := [va_rf n16, va_rf (some x)]) H (fun v h' c1 s1 e cb sb k => ?_) (fun v17 h c s H => ?_)
  · obtain ⟨a, hr, e9⟩ := znn_ok e
    cases hr
    exact V_invokeinit eX0_init_103 lmJ2_init rfl rfl q561 q308 (c_J2_init e9) (hRet_oU _ _) rfl rfl rfl (by simp only [List.map_cons, List.map_nil, zcr]; rfl) (kOU k)
  refine D_pR eX0_init_106 fq_X0_154_tR fn_X0_init_154 H (fun h H => ?_)
  refine V_aload0 eX0_init_109 (zrf_rf _) ?_
  refine V_bipush (v := 7) (by decide) eX0_init_110 ?_
  refine D_newarray (g := 7) (κ := 100) (cT := 0) eX0_init_112 rfl rfl rfl q585 rfl (by decide) H (fun n18 h c s H => ?_)
  refine D_pR eX0_init_114 fq_X0_157_tR fn_X0_init_157 H (fun h H => ?_)
  refine V_aload0 eX0_init_117 (zrf_rf _) ?_
  refine V_bipush (v := 7) (by decide) eX0_init_118 ?_
  refine D_newarray (g := 8) (κ := 100) (cT := 0) eX0_init_120 rfl rfl rfl q585 rfl (by decide) H (fun n19 h c s H => ?_)
  refine D_pR eX0_init_122 fq_X0_160_tR fn_X0_init_160 H (fun h H => ?_)
  refine V_aload0 eX0_init_125 (zrf_rf _) ?_
  refine V_bipush (v := 7) (by decide) eX0_init_126 ?_
  refine D_newarray (g := 9) (κ := 100) (cT := 0) eX0_init_128 rfl rfl rfl q585 rfl (by decide) H (fun n20 h c s H => ?_)
  refine D_pR eX0_init_130 fq_X0_163_tR fn_X0_init_163 H (fun h H => ?_)
  refine V_aload0 eX0_init_133 (zrf_rf _) ?_
  refine V_bipush (v := 7) (by decide) eX0_init_134 ?_
  refine D_newarray (g := 10) (κ := 100) (cT := 0) eX0_init_136 rfl rfl rfl q585 rfl (by decide) H (fun n21 h c s H => ?_)
  refine D_pR eX0_init_138 fq_X0_166_tR fn_X0_init_166 H (fun h H => ?_)
  refine V_aload0 eX0_init_141 (zrf_rf _) ?_
  refine D_new (g := 5) eX0_init_142 nl_X0_33 rfl H (fun n22 h c s H => ?_)
  refine V_dup (zcr _) eX0_init_145 ?_
  refine D_callU (pc' := 149) (st := [va_rf n22, va_rf (some x)]) H (fun v h' c1 s1 e cb sb k => ?_) (fun v23 h c s H => ?_)
  · obtain ⟨a, hr, e9⟩ := znn_ok e
    cases hr
    exact V_invokeinit eX0_init_146 lmJ2_init rfl rfl q561 q308 (c_J2_init e9) (hRet_oU _ _) rfl rfl rfl (by simp only [List.map_cons, List.map_nil, zcr]; rfl) (kOU k)
  refine D_pR eX0_init_149 fq_X0_169_tR fn_X0_init_169 H (fun h H => ?_)
  refine V_aload0 eX0_init_152 (zrf_rf _) ?_
  refine V_sipush (v := 1000) (by decide) eX0_init_153 ?_
  refine D_anewarray (g := 11) (κ := 500) (cT := 8) eX0_init_156 rfl rfl (Or.inr ⟨_, rfl, q589⟩) q590 H (fun n24 h c s H => ?_)
  refine D_pR eX0_init_159 fq_X0_173_tR fn_X0_init_173 H (fun h H => ?_)
  refine V_aload0 eX0_init_162 (zrf_rf _) ?_
  refine V_iconst (v := 4) (by decide) eX0_init_163 ?_
  refine D_anewarray (g := 12) (κ := 450) (cT := 7) eX0_init_164 rfl rfl (Or.inl ⟨_, rfl, q591⟩) q592 H (fun n25 h c s H => ?_)
  refine D_pR eX0_init_167 fq_X0_179_tR fn_X0_init_179 H (fun h H => ?_)
  obtain ⟨rfl, rfl, rfl, rfl⟩ := zrt_ok H
  exact V_return (x := ()) eX0_init_170 rfl ⟨rfl, rfl⟩
