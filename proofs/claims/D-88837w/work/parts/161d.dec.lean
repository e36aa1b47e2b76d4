set_option maxRecDepth 100000
def f_X12_number : Nat → Option Nat := fun k => match k with
  | 13 => some 0
  | 15 => some 0
  | 17 => some 0
  | 18 => some 0
  | 21 => some 0
  | 22 => some 0
  | _ => none
theorem fq_X0_138_tI : FQ RX0 138 f_X12_number tI := by
  intro k j e
  unfold f_X12_number at e
  split at e
  · cases e; exact ⟨fl_X0_138_13, Or.inl rfl⟩
  · cases e; exact ⟨fl_X0_138_15, Or.inl rfl⟩
  · cases e; exact ⟨fl_X0_138_17, Or.inl rfl⟩
  · cases e; exact ⟨fl_X0_138_18, Or.inl rfl⟩
  · cases e; exact ⟨fl_X0_138_21, Or.inl rfl⟩
  · cases e; exact ⟨fl_X0_138_22, Or.inl rfl⟩
  · cases e
def o_X0_add (w : Wd) (F : Nat) (x : Nat) (a1 : Option Nat) : M Int32 :=
  zbd (zgR f_X0_papers (some x)) fun v1 =>
  zbd (zv1 30 v1 (fun a => o_J2_add w F a a1)) fun v2 =>
  zbd (zgI f_X12_number a1) fun v3 =>
  zrt v3
theorem c_X0_add {w : Wd} {F : Nat} {x : Nat} {a1 : Option Nat} {h h1 : Hp} {y : Int32} {c s : Nat} (H : o_X0_add w F x a1 h = some (y, h1, c, s)) : Con w mX0_add cX0_add 7 c s [.ref x, va_rf a1] h (Ro (oI y) h1) := by
  unfold o_X0_add at H
  refine Con.of (ls := [some (va_rf (some x)), some (va_rf a1)]) (by decide +kernel) (by simp only [zsl_r, zsl_i, zsl_l, zsl_n, zsl_a]; rfl) (by simp only [zar_r, zar_i, zar_l, zar_n, zar_a]; rfl) ?_
  refine V_aload0 eX0_add_0 (zrf_rf _) ?_
  refine D_gR eX0_add_1 fq_X0_121_tR H (fun v1 H => ?_)
  refine V_aload1 eX0_add_4 (zrf_rf _) ?_
  refine D_callI (pc' := 8) (st := []) H (fun v h' c1 s1 e cb sb k => ?_) (fun v2 h c s H => ?_)
  · obtain ⟨a, hr, ha, hk, e9⟩ := zv1_ok e
    cases hr
    exact V_invokevirtual (k := 30) eX0_add_5 lmJ2_add q196 q197 rfl rfl q198 ha hk (c_J2_add e9) (hRet_oI _ _) rfl rfl rfl rfl (kOI k)
  refine V_pop rfl eX0_add_8 ?_
  refine V_aload1 eX0_add_9 (zrf_rf _) ?_
  refine D_gI eX0_add_10 fq_X0_138_tI H (fun v3 H => ?_)
  obtain ⟨rfl, rfl, rfl, rfl⟩ := zrt_ok H
  exact V_ireturn eX0_add_13 rfl ⟨rfl, rfl⟩
def d_X0_isFull_17 (w : Wd) (F : Nat) (s0 : Int32) : M Int32 :=
  zbd (zgd (s0 = 0 ∨ s0 = 1)) fun _ => zrt s0
def o_X0_isFull (w : Wd) (F : Nat) (x : Nat) : M Int32 :=
  zbd (zgR f_X0_papers (some x)) fun v1 =>
  zbd (zv1 30 v1 (fun a => o_J2_size w F a)) fun v2 =>
  zif (v2 = (60 : Int32)) (d_X0_isFull_17 w F (1 : Int32))
  (d_X0_isFull_17 w F (0 : Int32))
theorem b_X0_isFull_17 {w : Wd} {F : Nat} {s0 : Int32} {h h1 : Hp} {y : Int32} {c s : Nat} (H : d_X0_isFull_17 w F s0 h = some (y, h1, c, s)) : V w mX0_isFull cX0_isFull 1 c s h 17 [none] [.int s0] (Ro (oI y) h1) := by
  unfold d_X0_isFull_17 at H
  obtain ⟨q, H⟩ := zgd_ok H
  obtain ⟨rfl, rfl, rfl, rfl⟩ := zrt_ok H
  exact V_zreturn eX0_isFull_17 rfl q ⟨rfl, rfl⟩
theorem c_X0_isFull {w : Wd} {F : Nat} {x : Nat} {h h1 : Hp} {y : Int32} {c s : Nat} (H : o_X0_isFull w F x h = some (y, h1, c, s)) : Con w mX0_isFull cX0_isFull 1 c s [.ref x] h (Ro (oI y) h1) := by
  unfold o_X0_isFull at H
  refine Con.of (ls := [some (va_rf (some x))]) (by decide +kernel) rfl rfl ?_
  refine V_aload0 eX0_isFull_0 (zrf_rf _) ?_
  refine D_gR eX0_isFull_1 fq_X0_121_tR H (fun v1 H => ?_)
  refine D_callI (pc' := 7) (st := []) H (fun v h' c1 s1 e cb sb k => ?_) (fun v2 h c s H => ?_)
  · obtain ⟨a, hr, ha, hk, e9⟩ := zv1_ok e
    cases hr
    exact V_invokevirtual (k := 30) eX0_isFull_4 lmJ2_size q156 q157 rfl rfl q158 ha hk (c_J2_size e9) (hRet_oI _ _) rfl rfl rfl rfl (kOI k)
  refine V_bipush (v := 60) (by decide) eX0_isFull_7 ?_
  refine V_if_icmpne eX0_isFull_9 (fun q => ?_) (fun q => ?_)
  · have H := zif_f q H
    refine V_iconst (v := 0) (by decide) eX0_isFull_16 ?_
    exact V_fg2 (b_X0_isFull_17 H) (zfg_n zfg_e)
  · have H := zif_t q H
    refine V_iconst (v := 1) (by decide) eX0_isFull_12 ?_
    refine V_goto eX0_isFull_13 ?_
    exact V_fg2 (b_X0_isFull_17 H) (zfg_n zfg_e)
def d_X0_townAt_30 (w : Wd) (F : Nat) (s0 : Option Nat) : M (Option Nat) :=
  zrt s0
def d_X0_townAt_15 (w : Wd) (F : Nat) : M (Option Nat) :=
  d_X0_townAt_30 w F none
def o_X0_townAt (w : Wd) (F : Nat) (x : Nat) (a1 : Int32) : M (Option Nat) :=
  zif (a1 < 0) (d_X0_townAt_15 w F)
  (zbd (zgR f_X0_towns (some x)) fun v1 =>
  zbd (zv1 30 v1 (fun a => o_J2_size w F a)) fun v2 =>
  zif (a1 < v2) (zbd (zgR f_X0_towns (some x)) fun v3 =>
  zbd (zv1 30 v3 (fun a => o_J2_get w F a a1)) fun v4 =>
  zbd (zcc y_X3 v4) fun _ =>
  d_X0_townAt_30 w F v4)
  (d_X0_townAt_15 w F))
theorem b_X0_townAt_30 {w : Wd} {F : Nat} {s0 : Option Nat} {h h1 : Hp} {y : Option Nat} {c s : Nat} (H : d_X0_townAt_30 w F s0 h = some (y, h1, c, s)) : V w mX0_townAt cX0_townAt 3 c s h 30 [none, none] [va_rf s0] (Ro (oR y) h1) := by
  unfold d_X0_townAt_30 at H
  obtain ⟨rfl, rfl, rfl, rfl⟩ := zrt_ok H
  exact V_areturn eX0_townAt_30 rfl (Or.inl ⟨_, rfl⟩) ⟨rfl, rfl⟩
theorem b_X0_townAt_15 {w : Wd} {F : Nat} {h h1 : Hp} {y : Option Nat} {c s : Nat} (H : d_X0_townAt_15 w F h = some (y, h1, c, s)) : V w mX0_townAt cX0_townAt 3 c s h 15 [none, none] [] (Ro (oR y) h1) := by
  unfold d_X0_townAt_15 at H
  refine D_null eX0_townAt_15 ?_
  refine V_goto eX0_townAt_16 ?_
  exact V_fg2 (b_X0_townAt_30 H) (zfg_n (zfg_n zfg_e))
theorem c_X0_townAt {w : Wd} {F : Nat} {x : Nat} {a1 : Int32} {h h1 : Hp} {y : Option Nat} {c s : Nat} (H : o_X0_townAt w F x a1 h = some (y, h1, c, s)) : Con w mX0_townAt cX0_townAt 3 c s [.ref x, .int a1] h (Ro (oR y) h1) := by
  unfold o_X0_townAt at H
  refine Con.of (ls := [some (va_rf (some x)), some (.int a1)]) (by decide +kernel) rfl rfl ?_
  refine V_iload1 eX0_townAt_0 ?_
  refine V_iflt eX0_townAt_1 (fun q => ?_) (fun q => ?_)
  · have H := zif_t q H
    exact V_fg2 (b_X0_townAt_15 H) (zfg_n (zfg_n zfg_e))
  · have H := zif_f q H
    refine V_iload1 eX0_townAt_4 ?_
    refine V_aload0 eX0_townAt_5 (zrf_rf _) ?_
    refine D_gR eX0_townAt_6 fq_X0_28_tR H (fun v1 H => ?_)
    refine D_callI (pc' := 12) (st := [.int a1]) H (fun v h' c1 s1 e cb sb k => ?_) (fun v2 h c s H => ?_)
    · obtain ⟨a, hr, ha, hk, e9⟩ := zv1_ok e
      cases hr
      exact V_invokevirtual (k := 30) eX0_townAt_9 lmJ2_size q156 q157 rfl rfl q158 ha hk (c_J2_size e9) (hRet_oI _ _) rfl rfl rfl rfl (kOI k)
    refine V_if_icmplt eX0_townAt_12 (fun q => ?_) (fun q => ?_)
    · have H := zif_t q H
      refine V_aload0 eX0_townAt_19 (zrf_rf _) ?_
      refine D_gR eX0_townAt_20 fq_X0_28_tR H (fun v3 H => ?_)
      refine V_iload1 eX0_townAt_23 ?_
      refine D_callR (pc' := 27) (st := []) H (fun v h' c1 s1 e cb sb k => ?_) (fun v4 h c s H => ?_)
      · obtain ⟨a, hr, ha, hk, e9⟩ := zv1_ok e
        cases hr
        exact V_invokevirtual (k := 30) eX0_townAt_24 lmJ2_get q160 q161 rfl rfl q162 ha hk (c_J2_get e9) (hRet_oR _ _) rfl rfl rfl rfl (kOR k)
      refine D_cast eX0_townAt_27 q174 y_X3_ok H (fun H => ?_)
      exact V_fg2 (b_X0_townAt_30 H) (zfg_n (zfg_n zfg_e))
    · have H := zif_f q H
      exact V_fg2 (b_X0_townAt_15 H) (zfg_n (zfg_n zfg_e))
theorem fq_X12_9_tN : FQ RX12 9 f_X12_number tN := by
  intro k j e
  unfold f_X12_number at e
  split at e
  · cases e; exact ⟨fl_X12_9_13, rfl⟩
  · cases e; exact ⟨fl_X12_9_15, rfl⟩
  · cases e; exact ⟨fl_X12_9_17, rfl⟩
  · cases e; exact ⟨fl_X12_9_18, rfl⟩
  · cases e; exact ⟨fl_X12_9_21, rfl⟩
  · cases e; exact ⟨fl_X12_9_22, rfl⟩
  · cases e
theorem fn_X12_init_9 : FN mX12_init 9 f_X12_number := by
  intro k j e
  unfold f_X12_number at e
  split at e
  · cases e; exact Or.inr ⟨rfl, rfl, rfl, _, q757, rfl⟩
  · cases e; exact Or.inr ⟨rfl, rfl, rfl, _, q757, rfl⟩
  · cases e; exact Or.inr ⟨rfl, rfl, rfl, _, q757, rfl⟩
  · cases e; exact Or.inr ⟨rfl, rfl, rfl, _, q757, rfl⟩
  · cases e; exact Or.inr ⟨rfl, rfl, rfl, _, q757, rfl⟩
  · cases e; exact Or.inr ⟨rfl, rfl, rfl, _, q757, rfl⟩
  · cases e
def f_X12_day : Nat → Option Nat := fun k => match k with
  | 13 => some 1
  | 15 => some 1
  | 17 => some 1
  | 18 => some 1
  | 21 => some 1
  | 22 => some 1
  | _ => none
theorem fq_X12_15_tN : FQ RX12 15 f_X12_day tN := by
  intro k j e
  unfold f_X12_day at e
  split at e
  · cases e; exact ⟨fl_X12_15_13, rfl⟩
  · cases e; exact ⟨fl_X12_15_15, rfl⟩
  · cases e; exact ⟨fl_X12_15_17, rfl⟩
  · cases e; exact ⟨fl_X12_15_18, rfl⟩
  · cases e; exact ⟨fl_X12_15_21, rfl⟩
  · cases e; exact ⟨fl_X12_15_22, rfl⟩
  · cases e
theorem fn_X12_init_15 : FN mX12_init 15 f_X12_day := by
  intro k j e
  unfold f_X12_day at e
  split at e
  · cases e; exact Or.inr ⟨rfl, rfl, rfl, _, q766, rfl⟩
  · cases e; exact Or.inr ⟨rfl, rfl, rfl, _, q766, rfl⟩
  · cases e; exact Or.inr ⟨rfl, rfl, rfl, _, q766, rfl⟩
  · cases e; exact Or.inr ⟨rfl, rfl, rfl, _, q766, rfl⟩
  · cases e; exact Or.inr ⟨rfl, rfl, rfl, _, q766, rfl⟩
  · cases e; exact Or.inr ⟨rfl, rfl, rfl, _, q766, rfl⟩
  · cases e
def o_X12_init (w : Wd) (F : Nat) (x : Nat) (a1 : Int32) (a2 : Int32) : M Unit :=
  zbd (zpI f_X12_number (some x) a1) fun _ =>
  zbd (zpI f_X12_day (some x) a2) fun _ =>
  zrt ()
theorem c_X12_init {w : Wd} {F : Nat} {x : Nat} {a1 : Int32} {a2 : Int32} {h h1 : Hp} {y : Unit} {c s : Nat} (H : o_X12_init w F x a1 a2 h = some (y, h1, c, s)) : Con w mX12_init cX12_init 1 c s [.ref x, .int a1, .int a2] h (Ro (oU y) h1) := by
  unfold o_X12_init at H
  refine Con.of (ls := [some (va_rf (some x)), some (.int a1), some (.int a2)]) (by decide +kernel) rfl rfl ?_
  refine V_aload0 eX12_init_0 (zrf_rf _) ?_
  refine V_objectinit eX12_init_1 q717 q180 q181 rfl rfl ?_
  refine V_aload0 eX12_init_4 (zrf_rf _) ?_
  refine V_iload1 eX12_init_5 ?_
  refine D_pI eX12_init_6 fq_X12_9_tN fn_X12_init_9 H (fun h H => ?_)
  refine V_aload0 eX12_init_9 (zrf_rf _) ?_
  refine V_iload2 eX12_init_10 ?_
  refine D_pI eX12_init_11 fq_X12_15_tN fn_X12_init_15 H (fun h H => ?_)
  obtain ⟨rfl, rfl, rfl, rfl⟩ := zrt_ok H
  exact V_return (x := ()) eX12_init_14 rfl ⟨rfl, rfl⟩
def f_X13_price : Nat → Option Nat := fun k => match k with
  | 13 => some 9
  | 15 => some 9
  | 18 => some 9
  | _ => none
theorem fq_X13_9_tN : FQ RX13 9 f_X13_price tN := by
  intro k j e
  unfold f_X13_price at e
  split at e
  · cases e; exact ⟨fl_X13_9_13, rfl⟩
  · cases e; exact ⟨fl_X13_9_15, rfl⟩
  · cases e; exact ⟨fl_X13_9_18, rfl⟩
  · cases e
theorem fn_X13_init_9 : FN mX13_init 9 f_X13_price := by
  intro k j e
  unfold f_X13_price at e
  split at e
  · cases e; exact Or.inl rfl
  · cases e; exact Or.inl rfl
  · cases e; exact Or.inl rfl
  · cases e
def f_X13_calledOn : Nat → Option Nat := fun k => match k with
  | 13 => some 10
  | 15 => some 10
  | 18 => some 10
  | _ => none
theorem fq_X13_15_tN : FQ RX13 15 f_X13_calledOn tN := by
  intro k j e
  unfold f_X13_calledOn at e
  split at e
  · cases e; exact ⟨fl_X13_15_13, rfl⟩
  · cases e; exact ⟨fl_X13_15_15, rfl⟩
  · cases e; exact ⟨fl_X13_15_18, rfl⟩
  · cases e
theorem fn_X13_init_15 : FN mX13_init 15 f_X13_calledOn := by
  intro k j e
  unfold f_X13_calledOn at e
  split at e
  · cases e; exact Or.inl rfl
  · cases e; exact Or.inl rfl
  · cases e; exact Or.inl rfl
  · cases e
def f_X13_held : Nat → Option Nat := fun k => match k with
  | 13 => some 11
  | 15 => some 11
  | 18 => some 11
  | _ => none
theorem fq_X13_18_tR : FQ RX13 18 f_X13_held tR := by
  intro k j e
  unfold f_X13_held at e
  split at e
  · cases e; exact ⟨fl_X13_18_13, Or.inr ⟨_, rfl⟩⟩
  · cases e; exact ⟨fl_X13_18_15, Or.inr ⟨_, rfl⟩⟩
  · cases e; exact ⟨fl_X13_18_18, Or.inr ⟨_, rfl⟩⟩
  · cases e
theorem fn_X13_init_18 : FN mX13_init 18 f_X13_held := by
  intro k j e
  unfold f_X13_held at e
  split at e
  · cases e; exact Or.inl rfl
  · cases e; exact Or.inl rfl
  · cases e; exact Or.inl rfl
  · cases e
def f_X13_place : Nat → Option Nat := fun k => match k with
  | 13 => some 6
  | 15 => some 6
  | 18 => some 6
  | _ => none
theorem fq_X13_22_tN : FQ RX13 22 f_X13_place tN := by
  intro k j e
  unfold f_X13_place at e
  split at e
  · cases e; exact ⟨fl_X13_22_13, rfl⟩
  · cases e; exact ⟨fl_X13_22_15, rfl⟩
  · cases e; exact ⟨fl_X13_22_18, rfl⟩
  · cases e
theorem fn_X13_init_22 : FN mX13_init 22 f_X13_place := by
  intro k j e
  unfold f_X13_place at e
  split at e
  · cases e; exact Or.inr ⟨rfl, rfl, rfl, _, q738, rfl⟩
  · cases e; exact Or.inr ⟨rfl, rfl, rfl, _, q738, rfl⟩
  · cases e; exact Or.inr ⟨rfl, rfl, rfl, _, q738, rfl⟩
  · cases e
def f_X13_from : Nat → Option Nat := fun k => match k with
  | 13 => some 2
  | 15 => some 2
  | 18 => some 2
  | _ => none
theorem fq_X13_25_tR : FQ RX13 25 f_X13_from tR := by
  intro k j e
  unfold f_X13_from at e
  split at e
  · cases e; exact ⟨fl_X13_25_13, Or.inl ⟨_, rfl⟩⟩
  · cases e; exact ⟨fl_X13_25_15, Or.inl ⟨_, rfl⟩⟩
  · cases e; exact ⟨fl_X13_25_18, Or.inl ⟨_, rfl⟩⟩
  · cases e
theorem fn_X13_init_25 : FN mX13_init 25 f_X13_from := by
  intro k j e
  unfold f_X13_from at e
  split at e
  · cases e; exact Or.inr ⟨rfl, rfl, rfl, _, q719, rfl⟩
  · cases e; exact Or.inr ⟨rfl, rfl, rfl, _, q719, rfl⟩
  · cases e; exact Or.inr ⟨rfl, rfl, rfl, _, q719, rfl⟩
  · cases e
def f_X13_to : Nat → Option Nat := fun k => match k with
  | 13 => some 3
  | 15 => some 3
  | 18 => some 3
  | _ => none
theorem fq_X13_29_tR : FQ RX13 29 f_X13_to tR := by
  intro k j e
  unfold f_X13_to at e
  split at e
  · cases e; exact ⟨fl_X13_29_13, Or.inl ⟨_, rfl⟩⟩
  · cases e; exact ⟨fl_X13_29_15, Or.inl ⟨_, rfl⟩⟩
  · cases e; exact ⟨fl_X13_29_18, Or.inl ⟨_, rfl⟩⟩
  · cases e
theorem fn_X13_init_29 : FN mX13_init 29 f_X13_to := by
  intro k j e
  unfold f_X13_to at e
  split at e
  · cases e; exact Or.inr ⟨rfl, rfl, rfl, _, q725, rfl⟩
  · cases e; exact Or.inr ⟨rfl, rfl, rfl, _, q725, rfl⟩
  · cases e; exact Or.inr ⟨rfl, rfl, rfl, _, q725, rfl⟩
  · cases e
def f_X13_gauge : Nat → Option Nat := fun k => match k with
  | 13 => some 4
  | 15 => some 4
  | 18 => some 4
  | _ => none
theorem fq_X13_32_tN : FQ RX13 32 f_X13_gauge tN := by
  intro k j e
  unfold f_X13_gauge at e
  split at e
  · cases e; exact ⟨fl_X13_32_13, rfl⟩
  · cases e; exact ⟨fl_X13_32_15, rfl⟩
  · cases e; exact ⟨fl_X13_32_18, rfl⟩
  · cases e
theorem fn_X13_init_32 : FN mX13_init 32 f_X13_gauge := by
  intro k j e
  unfold f_X13_gauge at e
  split at e
  · cases e; exact Or.inr ⟨rfl, rfl, rfl, _, q731, rfl⟩
  · cases e; exact Or.inr ⟨rfl, rfl, rfl, _, q731, rfl⟩
  · cases e; exact Or.inr ⟨rfl, rfl, rfl, _, q731, rfl⟩
  · cases e
def f_X13_shares : Nat → Option Nat := fun k => match k with
  | 13 => some 5
  | 15 => some 5
  | 18 => some 5
  | _ => none
theorem fq_X13_35_tN : FQ RX13 35 f_X13_shares tN := by
  intro k j e
  unfold f_X13_shares at e
  split at e
  · cases e; exact ⟨fl_X13_35_13, rfl⟩
  · cases e; exact ⟨fl_X13_35_15, rfl⟩
  · cases e; exact ⟨fl_X13_35_18, rfl⟩
  · cases e
theorem fn_X13_init_35 : FN mX13_init 35 f_X13_shares := by
  intro k j e
  unfold f_X13_shares at e
  split at e
  · cases e; exact Or.inr ⟨rfl, rfl, rfl, _, q737, rfl⟩
  · cases e; exact Or.inr ⟨rfl, rfl, rfl, _, q737, rfl⟩
  · cases e; exact Or.inr ⟨rfl, rfl, rfl, _, q737, rfl⟩
  · cases e
def o_X13_init (w : Wd) (F : Nat) (x : Nat) (a1 : Int32) (a2 : Int32) (a3 : Int32) (a4 : Option Nat) (a5 : Option Nat) (a6 : Int32) (a7 : Int32) : M Unit :=
  zbd (o_X12_init w F x a1 a2) fun _ =>
  zbd (zpI f_X13_price (some x) (-5 : Int32)) fun _ =>
  zbd (zpI f_X13_calledOn (some x) (-1 : Int32)) fun _ =>
  zbd (znA 100 (zgo (some x) 1) (8 : Int32)) fun n2 =>
  zbd (zpR f_X13_held (some x) n2) fun _ =>
  zbd (zpI f_X13_place (some x) a3) fun _ =>
  zbd (zpR f_X13_from (some x) a4) fun _ =>
  zbd (zpR f_X13_to (some x) a5) fun _ =>
  zbd (zpI f_X13_gauge (some x) a6) fun _ =>
  zbd (zpI f_X13_shares (some x) a7) fun _ =>
  zrt ()
theorem c_X13_init {w : Wd} {F : Nat} {x : Nat} {a1 : Int32} {a2 : Int32} {a3 : Int32} {a4 : Option Nat} {a5 : Option Nat} {a6 : Int32} {a7 : Int32} {h h1 : Hp} {y : Unit} {c s : Nat} (H : o_X13_init w F x a1 a2 a3 a4 a5 a6 a7 h = some (y, h1, c, s)) : Con w mX13_init cX13_init 2 c s [.ref x, .int a1, .int a2, .int a3, va_rf a4, va_rf a5, .int a6, .int a7] h (Ro (oU y) h1) := by
  unfold o_X13_init at H
  refine Con.of (ls := [some (va_rf (some x)), some (.int a1), some (.int a2), some (.int a3), some (va_rf a4), some (va_rf a5), some (.int a6), some (.int a7)]) (by decide +kernel) (by simp only [zsl_r, zsl_i, zsl_l, zsl_n, zsl_a]; rfl) (by simp only [zar_r, zar_i, zar_l, zar_n, zar_a]; rfl) ?_
  refine V_aload0 eX13_init_0 (zrf_rf _) ?_
  refine V_iload1 eX13_init_1 ?_
  refine V_iload2 eX13_init_2 ?_
  refine D_callU (pc' := 6) (st := []) H (fun v h' c1 s1 e cb sb k => ?_) (fun v1 h c s H => ?_)
  · exact V_invokeinit eX13_init_3 lmX12_init rfl rfl q714 q715 (c_X12_init e) (hRet_oU _ _) rfl rfl rfl rfl (kOU k)
  refine V_aload0 eX13_init_6 (zrf_rf _) ?_
  refine V_bipush (v := -5) (by decide) eX13_init_7 ?_
  refine D_pI eX13_init_9 fq_X13_9_tN fn_X13_init_9 H (fun h H => ?_)
  refine V_aload0 eX13_init_12 (zrf_rf _) ?_
  refine V_iconst (v := -1) (by decide) eX13_init_13 ?_
  refine D_pI eX13_init_14 fq_X13_15_tN fn_X13_init_15 H (fun h H => ?_)
  refine V_aload0 eX13_init_17 (zrf_rf _) ?_
  refine V_bipush (v := 8) (by decide) eX13_init_18 ?_
  refine D_newarray (g := (zgo (some x) 1)) (κ := 100) (cT := 0) eX13_init_20 rfl rfl rfl q585 rfl (by decide) H (fun n2 h c s H => ?_)
  refine D_pR eX13_init_22 fq_X13_18_tR fn_X13_init_18 H (fun h H => ?_)
  refine V_aload0 eX13_init_25 (zrf_rf _) ?_
  refine V_iload3 eX13_init_26 ?_
  refine D_pI eX13_init_27 fq_X13_22_tN fn_X13_init_22 H (fun h H => ?_)
  refine V_aload0 eX13_init_30 (zrf_rf _) ?_
  refine V_aload4 eX13_init_31 (zrf_rf _) ?_
  refine D_pR eX13_init_33 fq_X13_25_tR fn_X13_init_25 H (fun h H => ?_)
  refine V_aload0 eX13_init_36 (zrf_rf _) ?_
  refine V_aload5 eX13_init_37 (zrf_rf _) ?_
  refine D_pR eX13_init_39 fq_X13_29_tR fn_X13_init_29 H (fun h H => ?_)
  refine V_aload0 eX13_init_42 (zrf_rf _) ?_
  refine V_iload6 eX13_init_43 ?_
  refine D_pI eX13_init_45 fq_X13_32_tN fn_X13_init_32 H (fun h H => ?_)
  refine V_aload0 eX13_init_48 (zrf_rf _) ?_
  refine V_iload7 eX13_init_49 ?_
  refine D_pI eX13_init_51 fq_X13_35_tN fn_X13_init_35 H (fun h H => ?_)
  obtain ⟨rfl, rfl, rfl, rfl⟩ := zrt_ok H
  exact V_return (x := ()) eX13_init_54 rfl ⟨rfl, rfl⟩
def f_X0_schemes : Nat → Option Nat := fun k => match k with
  | 0 => some 11
  | _ => none
theorem fq_X0_191_tI : FQ RX0 191 f_X0_schemes tI := by
  intro k j e
  unfold f_X0_schemes at e
  split at e
  · cases e; exact ⟨fl_X0_191_0, Or.inl rfl⟩
  · cases e
def f_X0_today : Nat → Option Nat := fun k => match k with
  | 0 => some 4
  | _ => none
theorem fq_X0_194_tI : FQ RX0 194 f_X0_today tI := by
  intro k j e
  unfold f_X0_today at e
  split at e
  · cases e; exact ⟨fl_X0_194_0, Or.inl rfl⟩
  · cases e
theorem fq_X0_191_tN : FQ RX0 191 f_X0_schemes tN := by
  intro k j e
  unfold f_X0_schemes at e
  split at e
  · cases e; exact ⟨fl_X0_191_0, rfl⟩
  · cases e
theorem fn_X0_scheme_191 : FN mX0_scheme 191 f_X0_schemes := by
  intro k j e
  unfold f_X0_schemes at e
  split at e
  · cases e; exact Or.inl rfl
  · cases e
def d_X0_scheme_24 (w : Wd) (F : Nat) : M Int32 :=
  zrt (-1 : Int32)
def d_X0_scheme_53 (w : Wd) (F : Nat) : M Int32 :=
  zrt (-2 : Int32)
def d_X0_scheme_117 (w : Wd) (F : Nat) (s0 : Int32) : M Int32 :=
  zrt s0
def d_X0_scheme_72 (w : Wd) (F : Nat) : M Int32 :=
  d_X0_scheme_117 w F (-4 : Int32)
def o_X0_scheme (w : Wd) (F : Nat) (x : Nat) (a1 : Int32) (a2 : Int32) (a3 : Int32) (a4 : Int32) : M Int32 :=
  zbd (zv1 0 (some x) (fun a => o_X0_townAt w F a a1)) fun v1 =>
  zbd (zv1 0 (some x) (fun a => o_X0_townAt w F a a2)) fun v2 =>
  zif (v1 = none) (d_X0_scheme_24 w F)
  (zif (v2 = none) (d_X0_scheme_24 w F)
  (zif (v1 = v2) (d_X0_scheme_53 w F)
  (zbd (o_X0_in w F a3 (0 : Int32) (1 : Int32)) fun v3 =>
  zif (v3 = 0) (d_X0_scheme_53 w F)
  (zbd (o_X0_in w F a4 (1 : Int32) (99 : Int32)) fun v4 =>
  zif (v4 = 0) (d_X0_scheme_53 w F)
  (zbd (zv1 0 (some x) (fun a => o_X0_isFull w F a)) fun v5 =>
  zif (v5 = 0) (zbd (zgI f_X0_schemes (some x)) fun v6 =>
  zif (v6 = (12 : Int32)) (d_X0_scheme_72 w F)
  (zbd (znw 13 0 12) fun n7 =>
  zbd (zgR f_X0_papers (some x)) fun v8 =>
  zbd (zv1 30 v8 (fun a => o_J2_size w F a)) fun v9 =>
  zbd (zgI f_X0_today (some x)) fun v10 =>
  zbd (zgI f_X0_schemes (some x)) fun v11 =>
  zbd (zpI f_X0_schemes (some x) (v11 + (1 : Int32))) fun _ =>
  zbd (znn n7 (fun a => o_X13_init w F a v9 v10 v11 v1 v2 a3 a4)) fun _ =>
  zbd (zv1 0 (some x) (fun a => o_X0_add w F a n7)) fun v13 =>
  d_X0_scheme_117 w F v13))
  (d_X0_scheme_72 w F))))))
theorem b_X0_scheme_24 {w : Wd} {F : Nat} {h h1 : Hp} {y : Int32} {c s : Nat} (H : d_X0_scheme_24 w F h = some (y, h1, c, s)) : V w mX0_scheme cX0_scheme 8 c s h 24 [none, none, none, none, none, none, none] [] (Ro (oI y) h1) := by
  unfold d_X0_scheme_24 at H
  refine V_iconst (v := -1) (by decide) eX0_scheme_24 ?_
  obtain ⟨rfl, rfl, rfl, rfl⟩ := zrt_ok H
  exact V_ireturn eX0_scheme_25 rfl ⟨rfl, rfl⟩
theorem b_X0_scheme_53 {w : Wd} {F : Nat} {h h1 : Hp} {y : Int32} {c s : Nat} (H : d_X0_scheme_53 w F h = some (y, h1, c, s)) : V w mX0_scheme cX0_scheme 8 c s h 53 [none, none, none, none, none, none, none] [] (Ro (oI y) h1) := by
  unfold d_X0_scheme_53 at H
  refine V_bipush (v := -2) (by decide) eX0_scheme_53 ?_
  obtain ⟨rfl, rfl, rfl, rfl⟩ := zrt_ok H
  exact V_ireturn eX0_scheme_55 rfl ⟨rfl, rfl⟩
theorem b_X0_scheme_117 {w : Wd} {F : Nat} {s0 : Int32} {h h1 : Hp} {y : Int32} {c s : Nat} (H : d_X0_scheme_117 w F s0 h = some (y, h1, c, s)) : V w mX0_scheme cX0_scheme 8 c s h 117 [none, none, none, none, none, none, none] [.int s0] (Ro (oI y) h1) := by
  unfold d_X0_scheme_117 at H
  obtain ⟨rfl, rfl, rfl, rfl⟩ := zrt_ok H
  exact V_ireturn eX0_scheme_117 rfl ⟨rfl, rfl⟩
theorem b_X0_scheme_72 {w : Wd} {F : Nat} {h h1 : Hp} {y : Int32} {c s : Nat} (H : d_X0_scheme_72 w F h = some (y, h1, c, s)) : V w mX0_scheme cX0_scheme 8 c s h 72 [none, none, none, none, none, none, none] [] (Ro (oI y) h1) := by
  unfold d_X0_scheme_72 at H
  refine V_bipush (v := -4) (by decide) eX0_scheme_72 ?_
  refine V_goto eX0_scheme_74 ?_
  exact V_fg2 (b_X0_scheme_117 H) (zfg_n (zfg_n (zfg_n (zfg_n (zfg_n (zfg_n (zfg_n zfg_e)))))))
theorem c_X0_scheme {w : Wd} {F : Nat} {x : Nat} {a1 : Int32} {a2 : Int32} {a3 : Int32} {a4 : Int32} {h h1 : Hp} {y : Int32} {c s : Nat} (H : o_X0_scheme w F x a1 a2 a3 a4 h = some (y, h1, c, s)) : Con w mX0_scheme cX0_scheme 8 c s [.ref x, .int a1, .int a2, .int a3, .int a4] h (Ro (oI y) h1) := by
  unfold o_X0_scheme at H
  refine Con.of (ls := [some (va_rf (some x)), some (.int a1), some (.int a2), some (.int a3), some (.int a4), none, none]) (by decide +kernel) rfl rfl ?_
  refine V_aload0 eX0_scheme_0 (zrf_rf _) ?_
  refine V_iload1 eX0_scheme_1 ?_
  refine D_callR (pc' := 5) (st := []) H (fun v h' c1 s1 e cb sb k => ?_) (fun v1 h c s H => ?_)
  · obtain ⟨a, hr, ha, hk, e9⟩ := zv1_ok e
    cases hr
    exact V_invokevirtual (k := 0) eX0_scheme_2 lmX0_townAt q701 q703 rfl rfl qs18 ha hk (c_X0_townAt e9) (hRet_oR _ _) rfl rfl rfl rfl (kOR k)
  refine V_astore5 rfl eX0_scheme_5 rfl (zrf_rf _) ?_
  refine V_aload0 eX0_scheme_7 (zrf_rf _) ?_
  refine V_iload2 eX0_scheme_8 ?_
  refine D_callR (pc' := 12) (st := []) H (fun v h' c1 s1 e cb sb k => ?_) (fun v2 h c s H => ?_)
  · obtain ⟨a, hr, ha, hk, e9⟩ := zv1_ok e
    cases hr
    exact V_invokevirtual (k := 0) eX0_scheme_9 lmX0_townAt q701 q703 rfl rfl qs18 ha hk (c_X0_townAt e9) (hRet_oR _ _) rfl rfl rfl rfl (kOR k)
  refine V_astore6 (znl_rf _) eX0_scheme_12 rfl (zrf_rf _) ?_
  refine V_aload5 eX0_scheme_14 (zrf_rf _) ?_
  refine V_ifnull eX0_scheme_16 (fun q => ?_) (fun a q => ?_)
  · have H := zif_t q H
    exact V_fg2 (b_X0_scheme_24 H) (zfg_n (zfg_n (zfg_n (zfg_n (zfg_n (zfg_n (zfg_n zfg_e)))))))
  · have H := zif_f (zsn q) H
    refine V_aload6 eX0_scheme_19 (zrf_rf _) ?_
    refine V_ifnonnull eX0_scheme_21 (fun a q => ?_) (fun q => ?_)
    · have H := zif_f (zsn q) H
      refine V_aload5 eX0_scheme_26 (zrf_rf _) ?_
      refine V_aload6 eX0_scheme_28 (zrf_rf _) ?_
      refine V_if_acmpeq eX0_scheme_30 (fun q => ?_) (fun q => ?_)
      · have H := zif_t q H
        exact V_fg2 (b_X0_scheme_53 H) (zfg_n (zfg_n (zfg_n (zfg_n (zfg_n (zfg_n (zfg_n zfg_e)))))))
      · have H := zif_f q H
        refine V_iload3 eX0_scheme_33 ?_
        refine V_iconst (v := 0) (by decide) eX0_scheme_34 ?_
        refine V_iconst (v := 1) (by decide) eX0_scheme_35 ?_
        refine D_callI (pc' := 39) (st := []) H (fun v h' c1 s1 e cb sb k => ?_) (fun v3 h c s H => ?_)
        · exact V_invokestatic eX0_scheme_36 lmX0_in q149 q150 (c_X0_in e) (hRet_oI _ _) rfl rfl rfl rfl (kOI k)
        refine V_ifeq eX0_scheme_39 (fun q => ?_) (fun q => ?_)
        · have H := zif_t q H
          exact V_fg2 (b_X0_scheme_53 H) (zfg_n (zfg_n (zfg_n (zfg_n (zfg_n (zfg_n (zfg_n zfg_e)))))))
        · have H := zif_f q H
          refine V_iload4 eX0_scheme_42 ?_
          refine V_iconst (v := 1) (by decide) eX0_scheme_44 ?_
          refine V_bipush (v := 99) (by decide) eX0_scheme_45 ?_
          refine D_callI (pc' := 50) (st := []) H (fun v h' c1 s1 e cb sb k => ?_) (fun v4 h c s H => ?_)
          · exact V_invokestatic eX0_scheme_47 lmX0_in q149 q150 (c_X0_in e) (hRet_oI _ _) rfl rfl rfl rfl (kOI k)
          refine V_ifne eX0_scheme_50 (fun q => ?_) (fun q => ?_)
          · have H := zif_f q H
            refine V_aload0 eX0_scheme_56 (zrf_rf _) ?_
            refine D_callI (pc' := 60) (st := []) H (fun v h' c1 s1 e cb sb k => ?_) (fun v5 h c s H => ?_)
            · obtain ⟨a, hr, ha, hk, e9⟩ := zv1_ok e
              cases hr
              exact V_invokevirtual (k := 0) eX0_scheme_57 lmX0_isFull q705 q707 rfl rfl qs19 ha hk (c_X0_isFull e9) (hRet_oI _ _) rfl rfl rfl rfl (kOI k)
            refine V_ifne eX0_scheme_60 (fun q => ?_) (fun q => ?_)
            · have H := zif_f q H
              exact V_fg2 (b_X0_scheme_72 H) (zfg_n (zfg_n (zfg_n (zfg_n (zfg_n (zfg_n (zfg_n zfg_e)))))))
            · have H := zif_t q H
              refine V_aload0 eX0_scheme_63 (zrf_rf _) ?_
              refine D_gI eX0_scheme_64 fq_X0_191_tI H (fun v6 H => ?_)
              refine V_bipush (v := 12) (by decide) eX0_scheme_67 ?_
              refine V_if_icmpne eX0_scheme_69 (fun q => ?_) (fun q => ?_)
              · have H := zif_f q H
                refine V_aload0 eX0_scheme_77 (zrf_rf _) ?_
                refine D_new (g := 0) eX0_scheme_78 nl_X0_130 rfl H (fun n7 h c s H => ?_)
                refine V_dup (zcr _) eX0_scheme_81 ?_
                refine V_aload0 eX0_scheme_82 (zrf_rf _) ?_
                refine D_gR eX0_scheme_83 fq_X0_121_tR H (fun v8 H => ?_)
                refine D_callI (pc' := 89) (st := [va_rf n7, va_rf n7, va_rf (some x)]) H (fun v h' c1 s1 e cb sb k => ?_) (fun v9 h c s H => ?_)
                · obtain ⟨a, hr, ha, hk, e9⟩ := zv1_ok e
                  cases hr
                  exact V_invokevirtual (k := 30) eX0_scheme_86 lmJ2_size q156 q157 rfl rfl q158 ha hk (c_J2_size e9) (hRet_oI _ _) rfl rfl rfl (by simp only [List.map_cons, List.map_nil, zcr]; rfl) (kOI k)
                refine V_aload0 eX0_scheme_89 (zrf_rf _) ?_
                refine D_gI eX0_scheme_90 fq_X0_194_tI H (fun v10 H => ?_)
                refine V_aload0 eX0_scheme_93 (zrf_rf _) ?_
                refine V_dup (zcr _) eX0_scheme_94 ?_
                refine D_gI eX0_scheme_95 fq_X0_191_tI H (fun v11 H => ?_)
                refine V_dup_x1 rfl (zcr _) eX0_scheme_98 ?_
                refine V_iconst (v := 1) (by decide) eX0_scheme_99 ?_
                refine V_iadd eX0_scheme_100 ?_
                refine D_pI eX0_scheme_101 fq_X0_191_tN fn_X0_scheme_191 H (fun h H => ?_)
                refine V_aload5 eX0_scheme_104 (zrf_rf _) ?_
                refine V_aload6 eX0_scheme_106 (zrf_rf _) ?_
                refine V_iload3 eX0_scheme_108 ?_
                refine V_iload4 eX0_scheme_109 ?_
                refine D_callU (pc' := 114) (st := [va_rf n7, va_rf (some x)]) H (fun v h' c1 s1 e cb sb k => ?_) (fun v12 h c s H => ?_)
                · obtain ⟨a, hr, e9⟩ := znn_ok e
                  cases hr
                  exact V_invokeinit eX0_scheme_111 lmX13_init rfl rfl q711 q712 (c_X13_init e9) (hRet_oU _ _) rfl rfl rfl (by simp only [List.map_cons, List.map_nil, zcr]; rfl) (kOU k)
                refine D_callI (pc' := 117) (st := []) H (fun v h' c1 s1 e cb sb k => ?_) (fun v13 h c s H => ?_)
                · obtain ⟨a, hr, ha, hk, e9⟩ := zv1_ok e
                  cases hr
                  exact V_invokevirtual (k := 0) eX0_scheme_114 lmX0_add q793 q795 rfl rfl qs20 ha hk (c_X0_add e9) (hRet_oI _ _) rfl rfl rfl rfl (kOI k)
                exact V_fg2 (b_X0_scheme_117 H) (zfg_n (zfg_n (zfg_n (zfg_n (zfg_n (zfg_n (zfg_n zfg_e)))))))
              · have H := zif_t q H
                exact V_fg2 (b_X0_scheme_72 H) (zfg_n (zfg_n (zfg_n (zfg_n (zfg_n (zfg_n (zfg_n zfg_e)))))))
          · have H := zif_t q H
            exact V_fg2 (b_X0_scheme_53 H) (zfg_n (zfg_n (zfg_n (zfg_n (zfg_n (zfg_n (zfg_n zfg_e)))))))
    · have H := zif_t q H
      exact V_fg2 (b_X0_scheme_24 H) (zfg_n (zfg_n (zfg_n (zfg_n (zfg_n (zfg_n (zfg_n zfg_e)))))))
def o_X0_isSheet (w : Wd) (F : Nat) (a0 : Int32) : M Int32 :=
  zbd (o_X0_in w F a0 (0 : Int32) (3 : Int32)) fun v1 =>
  zbd (zgd (v1 = 0 ∨ v1 = 1)) fun _ => zrt v1
theorem c_X0_isSheet {w : Wd} {F : Nat} {a0 : Int32} {h h1 : Hp} {y : Int32} {c s : Nat} (H : o_X0_isSheet w F a0 h = some (y, h1, c, s)) : Con w mX0_isSheet cX0_isSheet 1 c s [.int a0] h (Ro (oI y) h1) := by
  unfold o_X0_isSheet at H
  refine Con.of (ls := [some (.int a0)]) (by decide +kernel) rfl rfl ?_
  refine V_iload0 eX0_isSheet_0 ?_
  refine V_iconst (v := 0) (by decide) eX0_isSheet_1 ?_
  refine V_iconst (v := 3) (by decide) eX0_isSheet_2 ?_
  refine D_callI (pc' := 6) (st := []) H (fun v h' c1 s1 e cb sb k => ?_) (fun v1 h c s H => ?_)
  · exact V_invokestatic eX0_isSheet_3 lmX0_in q149 q150 (c_X0_in e) (hRet_oI _ _) rfl rfl rfl rfl (kOI k)
  obtain ⟨q, H⟩ := zgd_ok H
  obtain ⟨rfl, rfl, rfl, rfl⟩ := zrt_ok H
  exact V_zreturn eX0_isSheet_6 rfl q ⟨rfl, rfl⟩
def y_X12 : Nat → Bool := fun k => match k with
  | 13 => true
  | 15 => true
  | 17 => true
  | 18 => true
  | 21 => true
  | 22 => true
  | _ => false
theorem y_X12_ok : ∀ k, y_X12 k = true → zok k = true ∧ ((zcl k).1 = "LinesPromised$Paper" ∨ Cond.castable (zcl k).1 "LinesPromised$Paper" ∈ lw_tbl) := by
  intro k e
  unfold y_X12 at e
  split at e
  · exact ⟨by decide, Or.inr q2424⟩
  · exact ⟨by decide, Or.inr q2423⟩
  · exact ⟨by decide, Or.inr q2421⟩
  · exact ⟨by decide, Or.inr q2419⟩
  · exact ⟨by decide, Or.inr q2420⟩
  · exact ⟨by decide, Or.inr q2422⟩
  · cases e
def d_X0_paperAt_30 (w : Wd) (F : Nat) (s0 : Option Nat) : M (Option Nat) :=
  zrt s0
def d_X0_paperAt_15 (w : Wd) (F : Nat) : M (Option Nat) :=
  d_X0_paperAt_30 w F none
def o_X0_paperAt (w : Wd) (F : Nat) (x : Nat) (a1 : Int32) : M (Option Nat) :=
  zif (a1 < 0) (d_X0_paperAt_15 w F)
  (zbd (zgR f_X0_papers (some x)) fun v1 =>
  zbd (zv1 30 v1 (fun a => o_J2_size w F a)) fun v2 =>
  zif (a1 < v2) (zbd (zgR f_X0_papers (some x)) fun v3 =>
  zbd (zv1 30 v3 (fun a => o_J2_get w F a a1)) fun v4 =>
  zbd (zcc y_X12 v4) fun _ =>
  d_X0_paperAt_30 w F v4)
  (d_X0_paperAt_15 w F))
theorem b_X0_paperAt_30 {w : Wd} {F : Nat} {s0 : Option Nat} {h h1 : Hp} {y : Option Nat} {c s : Nat} (H : d_X0_paperAt_30 w F s0 h = some (y, h1, c, s)) : V w mX0_paperAt cX0_paperAt 3 c s h 30 [none, none] [va_rf s0] (Ro (oR y) h1) := by
  unfold d_X0_paperAt_30 at H
  obtain ⟨rfl, rfl, rfl, rfl⟩ := zrt_ok H
  exact V_areturn eX0_paperAt_30 rfl (Or.inl ⟨_, rfl⟩) ⟨rfl, rfl⟩
theorem b_X0_paperAt_15 {w : Wd} {F : Nat} {h h1 : Hp} {y : Option Nat} {c s : Nat} (H : d_X0_paperAt_15 w F h = some (y, h1, c, s)) : V w mX0_paperAt cX0_paperAt 3 c s h 15 [none, none] [] (Ro (oR y) h1) := by
  unfold d_X0_paperAt_15 at H
  refine D_null eX0_paperAt_15 ?_
  refine V_goto eX0_paperAt_16 ?_
  exact V_fg2 (b_X0_paperAt_30 H) (zfg_n (zfg_n zfg_e))
theorem c_X0_paperAt {w : Wd} {F : Nat} {x : Nat} {a1 : Int32} {h h1 : Hp} {y : Option Nat} {c s : Nat} (H : o_X0_paperAt w F x a1 h = some (y, h1, c, s)) : Con w mX0_paperAt cX0_paperAt 3 c s [.ref x, .int a1] h (Ro (oR y) h1) := by
  unfold o_X0_paperAt at H
  refine Con.of (ls := [some (va_rf (some x)), some (.int a1)]) (by decide +kernel) rfl rfl ?_
  refine V_iload1 eX0_paperAt_0 ?_
  refine V_iflt eX0_paperAt_1 (fun q => ?_) (fun q => ?_)
  · have H := zif_t q H
    exact V_fg2 (b_X0_paperAt_15 H) (zfg_n (zfg_n zfg_e))
  · have H := zif_f q H
    refine V_iload1 eX0_paperAt_4 ?_
    refine V_aload0 eX0_paperAt_5 (zrf_rf _) ?_
    refine D_gR eX0_paperAt_6 fq_X0_121_tR H (fun v1 H => ?_)
    refine D_callI (pc' := 12) (st := [.int a1]) H (fun v h' c1 s1 e cb sb k => ?_) (fun v2 h c s H => ?_)
    · obtain ⟨a, hr, ha, hk, e9⟩ := zv1_ok e
      cases hr
      exact V_invokevirtual (k := 30) eX0_paperAt_9 lmJ2_size q156 q157 rfl rfl q158 ha hk (c_J2_size e9) (hRet_oI _ _) rfl rfl rfl rfl (kOI k)
    refine V_if_icmplt eX0_paperAt_12 (fun q => ?_) (fun q => ?_)
    · have H := zif_t q H
      refine V_aload0 eX0_paperAt_19 (zrf_rf _) ?_
      refine D_gR eX0_paperAt_20 fq_X0_121_tR H (fun v3 H => ?_)
      refine V_iload1 eX0_paperAt_23 ?_
      refine D_callR (pc' := 27) (st := []) H (fun v h' c1 s1 e cb sb k => ?_) (fun v4 h c s H => ?_)
      · obtain ⟨a, hr, ha, hk, e9⟩ := zv1_ok e
        cases hr
        exact V_invokevirtual (k := 30) eX0_paperAt_24 lmJ2_get q160 q161 rfl rfl q162 ha hk (c_J2_get e9) (hRet_oR _ _) rfl rfl rfl rfl (kOR k)
      refine D_cast eX0_paperAt_27 q810 y_X12_ok H (fun H => ?_)
      exact V_fg2 (b_X0_paperAt_30 H) (zfg_n (zfg_n zfg_e))
    · have H := zif_f q H
      exact V_fg2 (b_X0_paperAt_15 H) (zfg_n (zfg_n zfg_e))
def o_X13_kind (w : Wd) (F : Nat) (x : Nat) : M Int32 :=
  zrt (1 : Int32)
theorem c_X13_kind {w : Wd} {F : Nat} {x : Nat} {h h1 : Hp} {y : Int32} {c s : Nat} (H : o_X13_kind w F x h = some (y, h1, c, s)) : Con w mX13_kind cX13_kind 0 c s [.ref x] h (Ro (oI y) h1) := by
  unfold o_X13_kind at H
  refine Con.of (ls := [some (va_rf (some x))]) (by decide +kernel) rfl rfl ?_
  refine V_iconst (v := 1) (by decide) eX13_kind_0 ?_
  obtain ⟨rfl, rfl, rfl, rfl⟩ := zrt_ok H
  exact V_ireturn eX13_kind_1 rfl ⟨rfl, rfl⟩
def o_X15_kind (w : Wd) (F : Nat) (x : Nat) : M Int32 :=
  zrt (2 : Int32)
theorem c_X15_kind {w : Wd} {F : Nat} {x : Nat} {h h1 : Hp} {y : Int32} {c s : Nat} (H : o_X15_kind w F x h = some (y, h1, c, s)) : Con w mX15_kind cX15_kind 0 c s [.ref x] h (Ro (oI y) h1) := by
  unfold o_X15_kind at H
  refine Con.of (ls := [some (va_rf (some x))]) (by decide +kernel) rfl rfl ?_
  refine V_iconst (v := 2) (by decide) eX15_kind_0 ?_
  obtain ⟨rfl, rfl, rfl, rfl⟩ := zrt_ok H
  exact V_ireturn eX15_kind_1 rfl ⟨rfl, rfl⟩
def o_X18_kind (w : Wd) (F : Nat) (x : Nat) : M Int32 :=
  zrt (3 : Int32)
theorem c_X18_kind {w : Wd} {F : Nat} {x : Nat} {h h1 : Hp} {y : Int32} {c s : Nat} (H : o_X18_kind w F x h = some (y, h1, c, s)) : Con w mX18_kind cX18_kind 0 c s [.ref x] h (Ro (oI y) h1) := by
  unfold o_X18_kind at H
  refine Con.of (ls := [some (va_rf (some x))]) (by decide +kernel) rfl rfl ?_
  refine V_iconst (v := 3) (by decide) eX18_kind_0 ?_
  obtain ⟨rfl, rfl, rfl, rfl⟩ := zrt_ok H
  exact V_ireturn eX18_kind_1 rfl ⟨rfl, rfl⟩
def y_X13 : Nat → Bool := fun k => match k with
  | 13 => true
  | 15 => true
  | 18 => true
  | _ => false
theorem y_X13_ok : ∀ k, y_X13 k = true → zok k = true ∧ ((zcl k).1 = "LinesPromised$Scheme" ∨ Cond.castable (zcl k).1 "LinesPromised$Scheme" ∈ lw_tbl) := by
  intro k e
  unfold y_X13 at e
  split at e
  · exact ⟨by decide, Or.inl rfl⟩
  · exact ⟨by decide, Or.inr q2426⟩
  · exact ⟨by decide, Or.inr q2425⟩
  · cases e
def n_X13 : Nat → Bool := fun k => match k with
  | 0 => true
  | 1 => true
  | 2 => true
  | 3 => true
  | 4 => true
  | 5 => true
  | 6 => true
  | 8 => true
  | 9 => true
  | 10 => true
  | 11 => true
  | 16 => true
  | 17 => true
  | 19 => true
  | 20 => true
  | 21 => true
  | 22 => true
  | 23 => true
  | 24 => true
  | 26 => true
  | 27 => true
  | 28 => true
  | 30 => true
  | _ => false
theorem n_X13_ok : ∀ k, n_X13 k = true → zok k = true ∧ ((zcl k).1, "LinesPromised$Scheme") ∈ zNC := by
  intro k e
  unfold n_X13 at e
  split at e
  · exact ⟨by decide, by decide +kernel⟩
  · exact ⟨by decide, by decide +kernel⟩
  · exact ⟨by decide, by decide +kernel⟩
  · exact ⟨by decide, by decide +kernel⟩
  · exact ⟨by decide, by decide +kernel⟩
  · exact ⟨by decide, by decide +kernel⟩
  · exact ⟨by decide, by decide +kernel⟩
  · exact ⟨by decide, by decide +kernel⟩
  · exact ⟨by decide, by decide +kernel⟩
  · exact ⟨by decide, by decide +kernel⟩
  · exact ⟨by decide, by decide +kernel⟩
  · exact ⟨by decide, by decide +kernel⟩
  · exact ⟨by decide, by decide +kernel⟩
  · exact ⟨by decide, by decide +kernel⟩
  · exact ⟨by decide, by decide +kernel⟩
  · exact ⟨by decide, by decide +kernel⟩
  · exact ⟨by decide, by decide +kernel⟩
  · exact ⟨by decide, by decide +kernel⟩
  · exact ⟨by decide, by decide +kernel⟩
  · exact ⟨by decide, by decide +kernel⟩
  · exact ⟨by decide, by decide +kernel⟩
  · exact ⟨by decide, by decide +kernel⟩
  · exact ⟨by decide, by decide +kernel⟩
  · cases e
def t_X13_kind (w : Wd) (F : Nat) : Nat → Option (Nat → M Int32) := fun k => match k with
  | 13 => some (fun a => o_X13_kind w F a)
  | 15 => some (fun a => o_X15_kind w F a)
  | 18 => some (fun a => o_X18_kind w F a)
  | _ => none
theorem t_X13_kind_ok {w : Wd} {F : Nat} {k : Nat} {f : Nat → M Int32} (e : t_X13_kind w F k = some f) : (k = 13 ∧ f = fun a => o_X13_kind w F a) ∨ (k = 15 ∧ f = fun a => o_X15_kind w F a) ∨ (k = 18 ∧ f = fun a => o_X18_kind w F a) := by
  unfold t_X13_kind at e
  split at e
  · cases e; exact Or.inl ⟨rfl, rfl⟩
  · cases e; exact Or.inr (Or.inl ⟨rfl, rfl⟩)
  · cases e; exact Or.inr (Or.inr (⟨rfl, rfl⟩))
  · cases e
def d_X0_schemeAt_31 (w : Wd) (F : Nat) (s0 : Option Nat) : M (Option Nat) :=
  zrt s0
def d_X0_schemeAt_30 (w : Wd) (F : Nat) : M (Option Nat) :=
  d_X0_schemeAt_31 w F none
def o_X0_schemeAt (w : Wd) (F : Nat) (x : Nat) (a1 : Int32) : M (Option Nat) :=
  zbd (zv1 0 (some x) (fun a => o_X0_paperAt w F a a1)) fun v1 =>
  zbd (zio y_X13 n_X13 v1) fun v2 =>
  zif (v2 = 0) (d_X0_schemeAt_30 w F)
  (zbd (zcc y_X13 v1) fun _ =>
  zbd (zvn (t_X13_kind w F) v1) fun v3 =>
  zif (v3 = (1 : Int32)) (d_X0_schemeAt_31 w F v1)
  (d_X0_schemeAt_30 w F))
theorem b_X0_schemeAt_31 {w : Wd} {F : Nat} {s0 : Option Nat} {h h1 : Hp} {y : Option Nat} {c s : Nat} (H : d_X0_schemeAt_31 w F s0 h = some (y, h1, c, s)) : V w mX0_schemeAt cX0_schemeAt 4 c s h 31 [none, none, none, none] [va_rf s0] (Ro (oR y) h1) := by
  unfold d_X0_schemeAt_31 at H
  obtain ⟨rfl, rfl, rfl, rfl⟩ := zrt_ok H
  exact V_areturn eX0_schemeAt_31 rfl (Or.inl ⟨_, rfl⟩) ⟨rfl, rfl⟩
theorem b_X0_schemeAt_30 {w : Wd} {F : Nat} {h h1 : Hp} {y : Option Nat} {c s : Nat} (H : d_X0_schemeAt_30 w F h = some (y, h1, c, s)) : V w mX0_schemeAt cX0_schemeAt 4 c s h 30 [none, none, none, none] [] (Ro (oR y) h1) := by
  unfold d_X0_schemeAt_30 at H
  refine D_null eX0_schemeAt_30 ?_
  exact V_fg2 (b_X0_schemeAt_31 H) (zfg_n (zfg_n (zfg_n (zfg_n zfg_e))))
theorem c_X0_schemeAt {w : Wd} {F : Nat} {x : Nat} {a1 : Int32} {h h1 : Hp} {y : Option Nat} {c s : Nat} (H : o_X0_schemeAt w F x a1 h = some (y, h1, c, s)) : Con w mX0_schemeAt cX0_schemeAt 4 c s [.ref x, .int a1] h (Ro (oR y) h1) := by
  unfold o_X0_schemeAt at H
  refine Con.of (ls := [some (va_rf (some x)), some (.int a1), none, none]) (by decide +kernel) rfl rfl ?_
  refine V_aload0 eX0_schemeAt_0 (zrf_rf _) ?_
  refine V_iload1 eX0_schemeAt_1 ?_
  refine D_callR (pc' := 5) (st := []) H (fun v h' c1 s1 e cb sb k => ?_) (fun v1 h c s H => ?_)
  · obtain ⟨a, hr, ha, hk, e9⟩ := zv1_ok e
    cases hr
    exact V_invokevirtual (k := 0) eX0_schemeAt_2 lmX0_paperAt q806 q808 rfl rfl qs22 ha hk (c_X0_paperAt e9) (hRet_oR _ _) rfl rfl rfl rfl (kOR k)
  refine V_astore3 rfl eX0_schemeAt_5 rfl (zrf_rf _) ?_
  refine V_aload3 eX0_schemeAt_6 (zrf_rf _) ?_
  refine D_inst eX0_schemeAt_7 q709 y_X13_ok n_X13_ok H (fun v2 H => ?_)
  refine V_ifeq eX0_schemeAt_10 (fun q => ?_) (fun q => ?_)
  · have H := zif_t q H
    exact V_fg2 (b_X0_schemeAt_30 H) (zfg_n (zfg_n (zfg_n (zfg_n zfg_e))))
  · have H := zif_f q H
    refine V_aload3 eX0_schemeAt_13 (zrf_rf _) ?_
    refine D_cast eX0_schemeAt_14 q709 y_X13_ok H (fun H => ?_)
    refine V_astore2 rfl eX0_schemeAt_17 rfl (zrf_rf _) ?_
    refine V_aload2 eX0_schemeAt_18 (zrf_rf _) ?_
    refine D_callI (pc' := 22) (st := []) H (fun v h' c1 s1 e cb sb k => ?_) (fun v3 h c s H => ?_)
    · obtain ⟨a, f, hr, ha, ht, e9⟩ := zvn_ok e
      cases hr
      rcases t_X13_kind_ok ht with ⟨hk, hf⟩ | ⟨hk, hf⟩ | ⟨hk, hf⟩
      · subst hf; exact V_invokevirtualU (k := 13) eX0_schemeAt_19 lmX13_kind (⟨"LinesPromised$Scheme", q811, q814, q813, q812, q125, ⟨by decide, by decide⟩, rfl, Or.inl rfl⟩) (by decide) ha hk (c_X13_kind e9) (hRet_oI _ _) rfl rfl rfl rfl (kOI k)
      · subst hf; exact V_invokevirtualU (k := 15) eX0_schemeAt_19 lmX15_kind (⟨"LinesPromised$Scheme", q811, q814, q818, q819, q127, ⟨by decide, by decide⟩, rfl, Or.inr (Or.inl ⟨q812, _, _, _, q821⟩)⟩) (by decide) ha hk (c_X15_kind e9) (hRet_oI _ _) rfl rfl rfl rfl (kOI k)
      · subst hf; exact V_invokevirtualU (k := 18) eX0_schemeAt_19 lmX18_kind (⟨"LinesPromised$Scheme", q811, q814, q815, q816, q130, ⟨by decide, by decide⟩, rfl, Or.inr (Or.inl ⟨q812, _, _, _, q821⟩)⟩) (by decide) ha hk (c_X18_kind e9) (hRet_oI _ _) rfl rfl rfl rfl (kOI k)
    refine V_iconst (v := 1) (by decide) eX0_schemeAt_22 ?_
    refine V_if_icmpne eX0_schemeAt_23 (fun q => ?_) (fun q => ?_)
    · have H := zif_f q H
      exact V_fg2 (b_X0_schemeAt_30 H) (zfg_n (zfg_n (zfg_n (zfg_n zfg_e))))
    · have H := zif_t q H
      refine V_aload2 eX0_schemeAt_26 (zrf_rf _) ?_
      refine V_goto eX0_schemeAt_27 ?_
      exact V_fg2 (b_X0_schemeAt_31 H) (zfg_n (zfg_n (zfg_n (zfg_n zfg_e))))
def f_X26_of : Nat → Option Nat := fun k => match k with
  | 26 => some 0
  | _ => none
theorem fq_X26_7_tR : FQ RX26 7 f_X26_of tR := by
  intro k j e
  unfold f_X26_of at e
  split at e
  · cases e; exact ⟨fl_X26_7_26, Or.inr ⟨_, rfl⟩⟩
  · cases e
def o_X26_get (w : Wd) (F : Nat) (x : Nat) (a1 : Int32) : M Int32 :=
  zbd (zgR f_X26_of (some x)) fun v1 =>
  zbd (zaI 2 v1 a1) fun v2 =>
  zrt v2
theorem c_X26_get {w : Wd} {F : Nat} {x : Nat} {a1 : Int32} {h h1 : Hp} {y : Int32} {c s : Nat} (H : o_X26_get w F x a1 h = some (y, h1, c, s)) : Con w mX26_get cX26_get 0 c s [.ref x, .int a1] h (Ro (oI y) h1) := by
  unfold o_X26_get at H
  refine Con.of (ls := [some (va_rf (some x)), some (.int a1)]) (by decide +kernel) rfl rfl ?_
  refine V_aload0 eX26_get_0 (zrf_rf _) ?_
  refine D_gR eX26_get_1 fq_X26_7_tR H (fun v1 H => ?_)
  refine V_iload1 eX26_get_4 ?_
  refine D_baload eX26_get_5 H (fun v2 H => ?_)
  obtain ⟨rfl, rfl, rfl, rfl⟩ := zrt_ok H
  exact V_ireturn eX26_get_6 rfl ⟨rfl, rfl⟩
def o_X26_size (w : Wd) (F : Nat) (x : Nat) : M Int32 :=
  zbd (zgR f_X26_of (some x)) fun v1 =>
  zbd (zal v1) fun v2 =>
  zrt v2
theorem c_X26_size {w : Wd} {F : Nat} {x : Nat} {h h1 : Hp} {y : Int32} {c s : Nat} (H : o_X26_size w F x h = some (y, h1, c, s)) : Con w mX26_size cX26_size 0 c s [.ref x] h (Ro (oI y) h1) := by
  unfold o_X26_size at H
  refine Con.of (ls := [some (va_rf (some x))]) (by decide +kernel) rfl rfl ?_
  refine V_aload0 eX26_size_0 (zrf_rf _) ?_
  refine D_gR eX26_size_1 fq_X26_7_tR H (fun v1 H => ?_)
  refine D_arraylength eX26_size_4 H (fun v2 H => ?_)
  obtain ⟨rfl, rfl, rfl, rfl⟩ := zrt_ok H
  exact V_ireturn eX26_size_5 rfl ⟨rfl, rfl⟩
def f_X27_of : Nat → Option Nat := fun k => match k with
  | 27 => some 0
  | _ => none
theorem fq_X27_7_tR : FQ RX27 7 f_X27_of tR := by
  intro k j e
  unfold f_X27_of at e
  split at e
  · cases e; exact ⟨fl_X27_7_27, Or.inr ⟨_, rfl⟩⟩
  · cases e
def o_X27_get (w : Wd) (F : Nat) (x : Nat) (a1 : Int32) : M Int32 :=
  zbd (zgR f_X27_of (some x)) fun v1 =>
  zbd (zaI 0 v1 a1) fun v2 =>
  zrt v2
theorem c_X27_get {w : Wd} {F : Nat} {x : Nat} {a1 : Int32} {h h1 : Hp} {y : Int32} {c s : Nat} (H : o_X27_get w F x a1 h = some (y, h1, c, s)) : Con w mX27_get cX27_get 0 c s [.ref x, .int a1] h (Ro (oI y) h1) := by
  unfold o_X27_get at H
  refine Con.of (ls := [some (va_rf (some x)), some (.int a1)]) (by decide +kernel) rfl rfl ?_
  refine V_aload0 eX27_get_0 (zrf_rf _) ?_
  refine D_gR eX27_get_1 fq_X27_7_tR H (fun v1 H => ?_)
  refine V_iload1 eX27_get_4 ?_
  refine D_iaload eX27_get_5 H (fun v2 H => ?_)
  obtain ⟨rfl, rfl, rfl, rfl⟩ := zrt_ok H
  exact V_ireturn eX27_get_6 rfl ⟨rfl, rfl⟩
def o_X27_size (w : Wd) (F : Nat) (x : Nat) : M Int32 :=
  zbd (zgR f_X27_of (some x)) fun v1 =>
  zbd (zal v1) fun v2 =>
  zrt v2
theorem c_X27_size {w : Wd} {F : Nat} {x : Nat} {h h1 : Hp} {y : Int32} {c s : Nat} (H : o_X27_size w F x h = some (y, h1, c, s)) : Con w mX27_size cX27_size 0 c s [.ref x] h (Ro (oI y) h1) := by
  unfold o_X27_size at H
  refine Con.of (ls := [some (va_rf (some x))]) (by decide +kernel) rfl rfl ?_
  refine V_aload0 eX27_size_0 (zrf_rf _) ?_
  refine D_gR eX27_size_1 fq_X27_7_tR H (fun v1 H => ?_)
  refine D_arraylength eX27_size_4 H (fun v2 H => ?_)
  obtain ⟨rfl, rfl, rfl, rfl⟩ := zrt_ok H
  exact V_ireturn eX27_size_5 rfl ⟨rfl, rfl⟩
def f_X28_of : Nat → Option Nat := fun k => match k with
  | 28 => some 0
  | _ => none
theorem fq_X28_7_tR : FQ RX28 7 f_X28_of tR := by
  intro k j e
  unfold f_X28_of at e
  split at e
  · cases e; exact ⟨fl_X28_7_28, Or.inr ⟨_, rfl⟩⟩
  · cases e
def o_X28_get (w : Wd) (F : Nat) (x : Nat) (a1 : Int32) : M Int32 :=
  zbd (zgR f_X28_of (some x)) fun v1 =>
  zbd (zaI 3 v1 a1) fun v2 =>
  zrt v2
theorem c_X28_get {w : Wd} {F : Nat} {x : Nat} {a1 : Int32} {h h1 : Hp} {y : Int32} {c s : Nat} (H : o_X28_get w F x a1 h = some (y, h1, c, s)) : Con w mX28_get cX28_get 0 c s [.ref x, .int a1] h (Ro (oI y) h1) := by
  unfold o_X28_get at H
  refine Con.of (ls := [some (va_rf (some x)), some (.int a1)]) (by decide +kernel) rfl rfl ?_
  refine V_aload0 eX28_get_0 (zrf_rf _) ?_
  refine D_gR eX28_get_1 fq_X28_7_tR H (fun v1 H => ?_)
  refine V_iload1 eX28_get_4 ?_
  refine D_saload eX28_get_5 H (fun v2 H => ?_)
  obtain ⟨rfl, rfl, rfl, rfl⟩ := zrt_ok H
  exact V_ireturn eX28_get_6 rfl ⟨rfl, rfl⟩
def o_X28_size (w : Wd) (F : Nat) (x : Nat) : M Int32 :=
  zbd (zgR f_X28_of (some x)) fun v1 =>
  zbd (zal v1) fun v2 =>
  zrt v2
theorem c_X28_size {w : Wd} {F : Nat} {x : Nat} {h h1 : Hp} {y : Int32} {c s : Nat} (H : o_X28_size w F x h = some (y, h1, c, s)) : Con w mX28_size cX28_size 0 c s [.ref x] h (Ro (oI y) h1) := by
  unfold o_X28_size at H
  refine Con.of (ls := [some (va_rf (some x))]) (by decide +kernel) rfl rfl ?_
  refine V_aload0 eX28_size_0 (zrf_rf _) ?_
  refine D_gR eX28_size_1 fq_X28_7_tR H (fun v1 H => ?_)
  refine D_arraylength eX28_size_4 H (fun v2 H => ?_)
  obtain ⟨rfl, rfl, rfl, rfl⟩ := zrt_ok H
  exact V_ireturn eX28_size_5 rfl ⟨rfl, rfl⟩
def f_X15_many : Nat → Option Nat := fun k => match k with
  | 15 => some 15
  | _ => none
theorem fq_X0_228_tI : FQ RX0 228 f_X15_many tI := by
  intro k j e
  unfold f_X15_many at e
  split at e
  · cases e; exact ⟨fl_X0_228_15, Or.inl rfl⟩
  · cases e
def f_X15_levels : Nat → Option Nat := fun k => match k with
  | 15 => some 14
  | _ => none
theorem fq_X0_231_tR : FQ RX0 231 f_X15_levels tR := by
  intro k j e
  unfold f_X15_levels at e
  split at e
  · cases e; exact ⟨fl_X0_231_15, Or.inr ⟨_, rfl⟩⟩
  · cases e
def y_X27 : Nat → Bool := fun k => match k with
  | 27 => true
  | _ => false
theorem y_X27_ok : ∀ k, y_X27 k = true → zok k = true ∧ ((zcl k).1 = "LinesPromised$Ints" ∨ Cond.castable (zcl k).1 "LinesPromised$Ints" ∈ lw_tbl) := by
  intro k e
  unfold y_X27 at e
  split at e
  · exact ⟨by decide, Or.inl rfl⟩
  · cases e
def n_X27 : Nat → Bool := fun k => match k with
  | 0 => true
  | 1 => true
  | 2 => true
  | 3 => true
  | 4 => true
  | 5 => true
  | 6 => true
  | 8 => true
  | 9 => true
  | 10 => true
  | 11 => true
  | 13 => true
  | 15 => true
  | 16 => true
  | 17 => true
  | 18 => true
  | 19 => true
  | 20 => true
  | 21 => true
  | 22 => true
  | 23 => true
  | 24 => true
  | 26 => true
  | 28 => true
  | 30 => true
  | _ => false
theorem n_X27_ok : ∀ k, n_X27 k = true → zok k = true ∧ ((zcl k).1, "LinesPromised$Ints") ∈ zNC := by
  intro k e
  unfold n_X27 at e
  split at e
  · exact ⟨by decide, by decide +kernel⟩
  · exact ⟨by decide, by decide +kernel⟩
  · exact ⟨by decide, by decide +kernel⟩
  · exact ⟨by decide, by decide +kernel⟩
  · exact ⟨by decide, by decide +kernel⟩
  · exact ⟨by decide, by decide +kernel⟩
  · exact ⟨by decide, by decide +kernel⟩
  · exact ⟨by decide, by decide +kernel⟩
  · exact ⟨by decide, by decide +kernel⟩
  · exact ⟨by decide, by decide +kernel⟩
  · exact ⟨by decide, by decide +kernel⟩
  · exact ⟨by decide, by decide +kernel⟩
  · exact ⟨by decide, by decide +kernel⟩
  · exact ⟨by decide, by decide +kernel⟩
  · exact ⟨by decide, by decide +kernel⟩
  · exact ⟨by decide, by decide +kernel⟩
  · exact ⟨by decide, by decide +kernel⟩
  · exact ⟨by decide, by decide +kernel⟩
  · exact ⟨by decide, by decide +kernel⟩
  · exact ⟨by decide, by decide +kernel⟩
  · exact ⟨by decide, by decide +kernel⟩
  · exact ⟨by decide, by decide +kernel⟩
  · exact ⟨by decide, by decide +kernel⟩
  · exact ⟨by decide, by decide +kernel⟩
  · exact ⟨by decide, by decide +kernel⟩
  · cases e
def t_X25_size (w : Wd) (F : Nat) : Nat → Option (Nat → M Int32) := fun k => match k with
  | 26 => some (fun a => o_X26_size w F a)
  | 27 => some (fun a => o_X27_size w F a)
  | 28 => some (fun a => o_X28_size w F a)
  | _ => none
theorem t_X25_size_ok {w : Wd} {F : Nat} {k : Nat} {f : Nat → M Int32} (e : t_X25_size w F k = some f) : (k = 26 ∧ f = fun a => o_X26_size w F a) ∨ (k = 27 ∧ f = fun a => o_X27_size w F a) ∨ (k = 28 ∧ f = fun a => o_X28_size w F a) := by
  unfold t_X25_size at e
  split at e
  · cases e; exact Or.inl ⟨rfl, rfl⟩
  · cases e; exact Or.inr (Or.inl ⟨rfl, rfl⟩)
  · cases e; exact Or.inr (Or.inr (⟨rfl, rfl⟩))
  · cases e
def t_X25_get (w : Wd) (F : Nat) (p0 : Int32) : Nat → Option (Nat → M Int32) := fun k => match k with
  | 26 => some (fun a => o_X26_get w F a p0)
  | 27 => some (fun a => o_X27_get w F a p0)
  | 28 => some (fun a => o_X28_get w F a p0)
  | _ => none
theorem t_X25_get_ok {w : Wd} {F : Nat} {p0 : Int32} {k : Nat} {f : Nat → M Int32} (e : t_X25_get w F p0 k = some f) : (k = 26 ∧ f = fun a => o_X26_get w F a p0) ∨ (k = 27 ∧ f = fun a => o_X27_get w F a p0) ∨ (k = 28 ∧ f = fun a => o_X28_get w F a p0) := by
  unfold t_X25_get at e
  split at e
  · cases e; exact Or.inl ⟨rfl, rfl⟩
  · cases e; exact Or.inr (Or.inl ⟨rfl, rfl⟩)
  · cases e; exact Or.inr (Or.inr (⟨rfl, rfl⟩))
  · cases e
def f_X15_way : Nat → Option Nat := fun k => match k with
  | 15 => some 13
  | _ => none
theorem fq_X0_203_tR : FQ RX0 203 f_X15_way tR := by
  intro k j e
  unfold f_X15_way at e
  split at e
  · cases e; exact ⟨fl_X0_203_15, Or.inr ⟨_, rfl⟩⟩
  · cases e
def d_X0_survey_148 (w : Wd) (F : Nat) (k2 : Int32 → M Unit) (x : Nat) (a1 : Option Nat) (a2 : Option Nat) (a3 : Int32) : M Unit :=
  k2 (a3 + (1 : Int32))
def d_X0_survey_64 (w : Wd) (F : Nat) (k2 : Int32 → M Unit) (x : Nat) (a1 : Option Nat) (a2 : Option Nat) (a3 : Int32) : M Unit :=
  zbd (zgR f_X15_levels a1) fun v4 =>
  zbd (zsI 0 v4 a3 (-1000000 : Int32)) fun _ =>
  d_X0_survey_148 w F k2 x a1 a2 a3
def d_X0_survey_146 (w : Wd) (F : Nat) (k2 : Int32 → M Unit) (x : Nat) (a1 : Option Nat) (a2 : Option Nat) (a3 : Int32) (s0 : Option Nat) (s1 : Int32) (s2 : Int32) (s3 : Int32) : M Unit :=
  zbd (zsI 0 s0 s1 (s2 + s3)) fun _ =>
  d_X0_survey_148 w F k2 x a1 a2 a3
def B_X0_survey_2 (w : Wd) (F : Nat) (k2 : Int32 → M Unit) (x : Nat) (a1 : Option Nat) (a2 : Option Nat) (a3 : Int32) : M Unit :=
  zbd (zgI f_X15_many a1) fun v1 =>
  zif (v1 ≤ a3) (zrt ())
  (zif (a3 = 0) (zbd (zgR f_X15_levels a1) fun v20 =>
  zbd (zgR f_X0_height (some x)) fun v21 =>
  zbd (zgR f_X15_way a1) fun v22 =>
  zbd (zaI 0 v22 (0 : Int32)) fun v23 =>
  zbd (zaI 0 v21 v23) fun v24 =>
  zbd (zsI 0 v20 (0 : Int32) v24) fun _ =>
  d_X0_survey_148 w F k2 x a1 a2 a3)
  (zbd (zgR f_X15_levels a1) fun v2 =>
  zbd (zaI 0 v2 (a3 - (1 : Int32))) fun v3 =>
  zif (v3 = (-1000000 : Int32)) (d_X0_survey_64 w F k2 x a1 a2 a3)
  (zbd (zio y_X27 n_X27 a2) fun v4 =>
  zif (v4 = 0) (d_X0_survey_64 w F k2 x a1 a2 a3)
  (zbd (zvn (t_X25_size w F) a2) fun v5 =>
  zif ((a3 - (1 : Int32)) < v5) (zbd (zvn (t_X25_get w F (a3 - (1 : Int32))) a2) fun v6 =>
  zbd (zgR f_X15_levels a1) fun v7 =>
  zbd (zgR f_X15_levels a1) fun v8 =>
  zbd (zaI 0 v8 (a3 - (1 : Int32))) fun v9 =>
  zif (v6 = (1000000 : Int32)) (zbd (zgR f_X0_height (some x)) fun v12 =>
  zbd (zgR f_X15_way a1) fun v13 =>
  zbd (zaI 0 v13 a3) fun v14 =>
  zbd (zaI 0 v12 v14) fun v15 =>
  zbd (zgR f_X0_height (some x)) fun v16 =>
  zbd (zgR f_X15_way a1) fun v17 =>
  zbd (zaI 0 v17 (a3 - (1 : Int32))) fun v18 =>
  zbd (zaI 0 v16 v18) fun v19 =>
  d_X0_survey_146 w F k2 x a1 a2 a3 v7 a3 v9 (v15 - v19))
  (zbd (o_J6_min w F (10000 : Int32) v6) fun v10 =>
  zbd (o_J6_max w F (-10000 : Int32) v10) fun v11 =>
  d_X0_survey_146 w F k2 x a1 a2 a3 v7 a3 v9 v11))
  (d_X0_survey_64 w F k2 x a1 a2 a3)))))
def d_X0_survey_2 (w : Wd) (F : Nat) (x : Nat) (a1 : Option Nat) (a2 : Option Nat) : Nat → Int32 → M Unit
  | 0, _ => zno
  | n + 1, a3 => B_X0_survey_2 w F (d_X0_survey_2 w F x a1 a2 n) x a1 a2 a3
def o_X0_survey (w : Wd) (F : Nat) (x : Nat) (a1 : Option Nat) (a2 : Option Nat) : M Unit :=
  d_X0_survey_2 w F x a1 a2 F (0 : Int32)
theorem b_X0_survey_148 {w : Wd} {F : Nat} {k2 : Int32 → M Unit} {x : Nat} {a1 : Option Nat} {a2 : Option Nat} (hk2 : ∀ (a3 : Int32) (h : Hp) (y : Unit) (h1 : Hp) (c s : Nat), k2 a3 h = some (y, h1, c, s) → V w mX0_survey cX0_survey 1 c s h 2 [some (va_rf (some x)), some (va_rf a1), some (va_rf a2), some (.int a3), none] [] (Ro (oU y) h1)) {a3 : Int32} {h h1 : Hp} {y : Unit} {c s : Nat} (H : d_X0_survey_148 w F k2 x a1 a2 a3 h = some (y, h1, c, s)) : V w mX0_survey cX0_survey 1 c s h 148 [some (va_rf (some x)), some (va_rf a1), some (va_rf a2), some (.int a3), none] [] (Ro (oU y) h1) := by
  unfold d_X0_survey_148 at H
  refine V_iinc3 (znl_rf _) eX0_survey_148 rfl (v := 1) (by decide) ?_
  refine V_goto eX0_survey_151 ?_
  exact V_fg2 (hk2 _ _ _ _ _ _ H) (zfg_k (zfg_k (zfg_k (zfg_k (zfg_n zfg_e)))))
theorem b_X0_survey_64 {w : Wd} {F : Nat} {k2 : Int32 → M Unit} {x : Nat} {a1 : Option Nat} {a2 : Option Nat} (hk2 : ∀ (a3 : Int32) (h : Hp) (y : Unit) (h1 : Hp) (c s : Nat), k2 a3 h = some (y, h1, c, s) → V w mX0_survey cX0_survey 1 c s h 2 [some (va_rf (some x)), some (va_rf a1), some (va_rf a2), some (.int a3), none] [] (Ro (oU y) h1)) {a3 : Int32} {h h1 : Hp} {y : Unit} {c s : Nat} (H : d_X0_survey_64 w F k2 x a1 a2 a3 h = some (y, h1, c, s)) : V w mX0_survey cX0_survey 1 c s h 64 [some (va_rf (some x)), some (va_rf a1), some (va_rf a2), some (.int a3), none] [] (Ro (oU y) h1) := by
  unfold d_X0_survey_64 at H
  refine V_aload1 eX0_survey_64 (zrf_rf _) ?_
  refine D_gR eX0_survey_65 fq_X0_231_tR H (fun v4 H => ?_)
  refine V_iload3 eX0_survey_68 ?_
  refine V_ldc (v := -1000000) eX0_survey_69 q932 ?_
  refine D_iastore eX0_survey_71 H (fun h H => ?_)
  refine V_goto eX0_survey_72 ?_
  exact V_fg2 (b_X0_survey_148 hk2 H) (zfg_k (zfg_k (zfg_k (zfg_k (zfg_n zfg_e)))))
theorem b_X0_survey_146 {w : Wd} {F : Nat} {k2 : Int32 → M Unit} {x : Nat} {a1 : Option Nat} {a2 : Option Nat} (hk2 : ∀ (a3 : Int32) (h : Hp) (y : Unit) (h1 : Hp) (c s : Nat), k2 a3 h = some (y, h1, c, s) → V w mX0_survey cX0_survey 1 c s h 2 [some (va_rf (some x)), some (va_rf a1), some (va_rf a2), some (.int a3), none] [] (Ro (oU y) h1)) {a3 : Int32} {s0 : Option Nat} {s1 : Int32} {s2 : Int32} {s3 : Int32} {h h1 : Hp} {y : Unit} {c s : Nat} (H : d_X0_survey_146 w F k2 x a1 a2 a3 s0 s1 s2 s3 h = some (y, h1, c, s)) : V w mX0_survey cX0_survey 1 c s h 146 [some (va_rf (some x)), some (va_rf a1), some (va_rf a2), some (.int a3), none] [.int s3, .int s2, .int s1, va_rf s0] (Ro (oU y) h1) := by
  unfold d_X0_survey_146 at H
  refine V_iadd eX0_survey_146 ?_
  refine D_iastore eX0_survey_147 H (fun h H => ?_)
  exact V_fg2 (b_X0_survey_148 hk2 H) (zfg_k (zfg_k (zfg_k (zfg_k (zfg_n zfg_e)))))
theorem bB_X0_survey_2 {w : Wd} {F : Nat} {k2 : Int32 → M Unit} {x : Nat} {a1 : Option Nat} {a2 : Option Nat} (hk2 : ∀ (a3 : Int32) (h : Hp) (y : Unit) (h1 : Hp) (c s : Nat), k2 a3 h = some (y, h1, c, s) → V w mX0_survey cX0_survey 1 c s h 2 [some (va_rf (some x)), some (va_rf a1), some (va_rf a2), some (.int a3), none] [] (Ro (oU y) h1)) {a3 : Int32} {h h1 : Hp} {y : Unit} {c s : Nat} (H : B_X0_survey_2 w F k2 x a1 a2 a3 h = some (y, h1, c, s)) : V w mX0_survey cX0_survey 1 c s h 2 [some (va_rf (some x)), some (va_rf a1), some (va_rf a2), some (.int a3), none] [] (Ro (oU y) h1) := by
  unfold B_X0_survey_2 at H
  refine V_iload3 eX0_survey_2 ?_
  refine V_aload1 eX0_survey_3 (zrf_rf _) ?_
  refine D_gI eX0_survey_4 fq_X0_228_tI H (fun v1 H => ?_)
  refine V_if_icmpge eX0_survey_7 (fun q => ?_) (fun q => ?_)
  · have H := zif_t q H
    obtain ⟨rfl, rfl, rfl, rfl⟩ := zrt_ok H
    exact V_return (x := ()) eX0_survey_154 rfl ⟨rfl, rfl⟩
  · have H := zif_f q H
    refine V_iload3 eX0_survey_10 ?_
    refine V_ifne eX0_survey_11 (fun q => ?_) (fun q => ?_)
    · have H := zif_f q H
      refine V_aload1 eX0_survey_34 (zrf_rf _) ?_
      refine D_gR eX0_survey_35 fq_X0_231_tR H (fun v2 H => ?_)
      refine V_iload3 eX0_survey_38 ?_
      refine V_iconst (v := 1) (by decide) eX0_survey_39 ?_
      refine V_isub eX0_survey_40 ?_
      refine D_iaload eX0_survey_41 H (fun v3 H => ?_)
      refine V_ldc (v := -1000000) eX0_survey_42 q932 ?_
      refine V_if_icmpeq eX0_survey_44 (fun q => ?_) (fun q => ?_)
      · have H := zif_t q H
        exact V_fg2 (b_X0_survey_64 hk2 H) (zfg_k (zfg_k (zfg_k (zfg_k (zfg_n zfg_e)))))
      · have H := zif_f q H
        refine V_aload2 eX0_survey_47 (zrf_rf _) ?_
        refine D_inst eX0_survey_48 q933 y_X27_ok n_X27_ok H (fun v4 H => ?_)
        refine V_ifeq eX0_survey_51 (fun q => ?_) (fun q => ?_)
        · have H := zif_t q H
          exact V_fg2 (b_X0_survey_64 hk2 H) (zfg_k (zfg_k (zfg_k (zfg_k (zfg_n zfg_e)))))
        · have H := zif_f q H
          refine V_iload3 eX0_survey_54 ?_
          refine V_iconst (v := 1) (by decide) eX0_survey_55 ?_
          refine V_isub eX0_survey_56 ?_
          refine V_aload2 eX0_survey_57 (zrf_rf _) ?_
          refine D_callI (pc' := 61) (st := [.int (a3 - (1 : Int32))]) H (fun v h' c1 s1 e cb sb k => ?_) (fun v5 h c s H => ?_)
          · obtain ⟨a, f, hr, ha, ht, e9⟩ := zvn_ok e
            cases hr
            rcases t_X25_size_ok ht with ⟨hk, hf⟩ | ⟨hk, hf⟩ | ⟨hk, hf⟩
            · subst hf; exact V_invokevirtualU (k := 26) eX0_survey_58 lmX26_size (⟨"LinesPromised$Sheet", q876, q878, q879, q880, q139, ⟨by decide, by decide⟩, rfl, Or.inr (Or.inr q877)⟩) (by decide) ha hk (c_X26_size e9) (hRet_oI _ _) rfl rfl rfl rfl (kOI k)
            · subst hf; exact V_invokevirtualU (k := 27) eX0_survey_58 lmX27_size (⟨"LinesPromised$Sheet", q876, q878, q882, q883, q140, ⟨by decide, by decide⟩, rfl, Or.inr (Or.inr q877)⟩) (by decide) ha hk (c_X27_size e9) (hRet_oI _ _) rfl rfl rfl rfl (kOI k)
            · subst hf; exact V_invokevirtualU (k := 28) eX0_survey_58 lmX28_size (⟨"LinesPromised$Sheet", q876, q878, q885, q886, q141, ⟨by decide, by decide⟩, rfl, Or.inr (Or.inr q877)⟩) (by decide) ha hk (c_X28_size e9) (hRet_oI _ _) rfl rfl rfl rfl (kOI k)
          refine V_if_icmplt eX0_survey_61 (fun q => ?_) (fun q => ?_)
          · have H := zif_t q H
            refine V_aload2 eX0_survey_75 (zrf_rf _) ?_
            refine V_iload3 eX0_survey_76 ?_
            refine V_iconst (v := 1) (by decide) eX0_survey_77 ?_
            refine V_isub eX0_survey_78 ?_
            refine D_callI (pc' := 82) (st := []) H (fun v h' c1 s1 e cb sb k => ?_) (fun v6 h c s H => ?_)
            · obtain ⟨a, f, hr, ha, ht, e9⟩ := zvn_ok e
              cases hr
              rcases t_X25_get_ok ht with ⟨hk, hf⟩ | ⟨hk, hf⟩ | ⟨hk, hf⟩
              · subst hf; exact V_invokevirtualU (k := 26) eX0_survey_79 lmX26_get (⟨"LinesPromised$Sheet", q906, q908, q909, q910, q139, ⟨by decide, by decide⟩, rfl, Or.inr (Or.inr q907)⟩) (by decide) ha hk (c_X26_get e9) (hRet_oI _ _) rfl rfl rfl rfl (kOI k)
              · subst hf; exact V_invokevirtualU (k := 27) eX0_survey_79 lmX27_get (⟨"LinesPromised$Sheet", q906, q908, q912, q913, q140, ⟨by decide, by decide⟩, rfl, Or.inr (Or.inr q907)⟩) (by decide) ha hk (c_X27_get e9) (hRet_oI _ _) rfl rfl rfl rfl (kOI k)
              · subst hf; exact V_invokevirtualU (k := 28) eX0_survey_79 lmX28_get (⟨"LinesPromised$Sheet", q906, q908, q915, q916, q141, ⟨by decide, by decide⟩, rfl, Or.inr (Or.inr q907)⟩) (by decide) ha hk (c_X28_get e9) (hRet_oI _ _) rfl rfl rfl rfl (kOI k)
            refine V_istore4 rfl eX0_survey_82 rfl ?_
            refine V_aload1 eX0_survey_84 (zrf_rf _) ?_
            refine D_gR eX0_survey_85 fq_X0_231_tR H (fun v7 H => ?_)
            refine V_iload3 eX0_survey_88 ?_
            refine V_aload1 eX0_survey_89 (zrf_rf _) ?_
            refine D_gR eX0_survey_90 fq_X0_231_tR H (fun v8 H => ?_)
            refine V_iload3 eX0_survey_93 ?_
            refine V_iconst (v := 1) (by decide) eX0_survey_94 ?_
            refine V_isub eX0_survey_95 ?_
            refine D_iaload eX0_survey_96 H (fun v9 H => ?_)
            refine V_iload4 eX0_survey_97 ?_
            refine V_ldc (v := 1000000) eX0_survey_99 q934 ?_
            refine V_if_icmpne eX0_survey_101 (fun q => ?_) (fun q => ?_)
            · have H := zif_f q H
              refine V_sipush (v := -10000) (by decide) eX0_survey_132 ?_
              refine V_sipush (v := 10000) (by decide) eX0_survey_135 ?_
              refine V_iload4 eX0_survey_138 ?_
              refine D_callI (pc' := 143) (st := [.int (-10000 : Int32), .int v9, .int a3, va_rf v7]) H (fun v h' c1 s1 e cb sb k => ?_) (fun v10 h c s H => ?_)
              · exact V_invokestatic eX0_survey_140 lmJ6_min q935 q265 (c_J6_min e) (hRet_oI _ _) rfl rfl rfl (by simp only [List.map_cons, List.map_nil, zcr]; rfl) (kOI k)
              refine D_callI (pc' := 146) (st := [.int v9, .int a3, va_rf v7]) H (fun v h' c1 s1 e cb sb k => ?_) (fun v11 h c s H => ?_)
              · exact V_invokestatic eX0_survey_143 lmJ6_max q936 q219 (c_J6_max e) (hRet_oI _ _) rfl rfl rfl (by simp only [List.map_cons, List.map_nil, zcr]; rfl) (kOI k)
              exact V_fg2 (b_X0_survey_146 hk2 H) (zfg_k (zfg_k (zfg_k (zfg_k (zfg_n zfg_e)))))
            · have H := zif_t q H
              refine V_aload0 eX0_survey_104 (zrf_rf _) ?_
              refine D_gR eX0_survey_105 fq_X0_13_tR H (fun v12 H => ?_)
              refine V_aload1 eX0_survey_108 (zrf_rf _) ?_
              refine D_gR eX0_survey_109 fq_X0_203_tR H (fun v13 H => ?_)
              refine V_iload3 eX0_survey_112 ?_
              refine D_iaload eX0_survey_113 H (fun v14 H => ?_)
              refine D_iaload eX0_survey_114 H (fun v15 H => ?_)
              refine V_aload0 eX0_survey_115 (zrf_rf _) ?_
              refine D_gR eX0_survey_116 fq_X0_13_tR H (fun v16 H => ?_)
              refine V_aload1 eX0_survey_119 (zrf_rf _) ?_
              refine D_gR eX0_survey_120 fq_X0_203_tR H (fun v17 H => ?_)
              refine V_iload3 eX0_survey_123 ?_
              refine V_iconst (v := 1) (by decide) eX0_survey_124 ?_
              refine V_isub eX0_survey_125 ?_
              refine D_iaload eX0_survey_126 H (fun v18 H => ?_)
              refine D_iaload eX0_survey_127 H (fun v19 H => ?_)
              refine V_isub eX0_survey_128 ?_
              refine V_goto eX0_survey_129 ?_
              exact V_fg2 (b_X0_survey_146 hk2 H) (zfg_k (zfg_k (zfg_k (zfg_k (zfg_n zfg_e)))))
          · have H := zif_f q H
            exact V_fg2 (b_X0_survey_64 hk2 H) (zfg_k (zfg_k (zfg_k (zfg_k (zfg_n zfg_e)))))
    · have H := zif_t q H
      refine V_aload1 eX0_survey_14 (zrf_rf _) ?_
      refine D_gR eX0_survey_15 fq_X0_231_tR H (fun v20 H => ?_)
      refine V_iconst (v := 0) (by decide) eX0_survey_18 ?_
      refine V_aload0 eX0_survey_19 (zrf_rf _) ?_
      refine D_gR eX0_survey_20 fq_X0_13_tR H (fun v21 H => ?_)
      refine V_aload1 eX0_survey_23 (zrf_rf _) ?_
      refine D_gR eX0_survey_24 fq_X0_203_tR H (fun v22 H => ?_)
      refine V_iconst (v := 0) (by decide) eX0_survey_27 ?_
      refine D_iaload eX0_survey_28 H (fun v23 H => ?_)
      refine D_iaload eX0_survey_29 H (fun v24 H => ?_)
      refine D_iastore eX0_survey_30 H (fun h H => ?_)
      refine V_goto eX0_survey_31 ?_
      exact V_fg2 (b_X0_survey_148 hk2 H) (zfg_k (zfg_k (zfg_k (zfg_k (zfg_n zfg_e)))))
theorem b_X0_survey_2 {w : Wd} {F : Nat} {x : Nat} {a1 : Option Nat} {a2 : Option Nat} : ∀ (n : Nat) (a3 : Int32) (h : Hp) (y : Unit) (h1 : Hp) (c s : Nat), d_X0_survey_2 w F x a1 a2 n a3 h = some (y, h1, c, s) → V w mX0_survey cX0_survey 1 c s h 2 [some (va_rf (some x)), some (va_rf a1), some (va_rf a2), some (.int a3), none] [] (Ro (oU y) h1) := by
  intro n
  induction n with
  | zero => intro a3 h y h1 c s H; exact zno_no H
  | succ n ih => intro a3 h y h1 c s H; exact bB_X0_survey_2 ih H
theorem c_X0_survey {w : Wd} {F : Nat} {x : Nat} {a1 : Option Nat} {a2 : Option Nat} {h h1 : Hp} {y : Unit} {c s : Nat} (H : o_X0_survey w F x a1 a2 h = some (y, h1, c, s)) : Con w mX0_survey cX0_survey 1 c s [.ref x, va_rf a1, va_rf a2] h (Ro (oU y) h1) := by
  unfold o_X0_survey at H
  refine Con.of (ls := [some (va_rf (some x)), some (va_rf a1), some (va_rf a2), none, none]) (by decide +kernel) (by simp only [zsl_r, zsl_i, zsl_l, zsl_n, zsl_a]; rfl) (by simp only [zar_r, zar_i, zar_l, zar_n, zar_a]; rfl) ?_
  refine V_iconst (v := 0) (by decide) eX0_survey_0 ?_
  refine V_istore3 (znl_rf _) eX0_survey_1 rfl ?_
  exact V_fg2 (b_X0_survey_2 _ _ _ _ _ _ _ H) (zfg_k (zfg_k (zfg_k (zfg_k (zfg_n zfg_e)))))
def d_X0_areBeside_34 (w : Wd) (F : Nat) (s0 : Int32) : M Int32 :=
  zbd (zgd (s0 = 0 ∨ s0 = 1)) fun _ => zrt s0
def o_X0_areBeside (w : Wd) (F : Nat) (a0 : Int32) (a1 : Int32) : M Int32 :=
  zbd (o_J6_abs w F ((a0 - a0 / (10 : Int32) * (10 : Int32)) - (a1 - a1 / (10 : Int32) * (10 : Int32)))) fun v1 =>
  zbd (o_J6_abs w F ((a0 / (10 : Int32)) - (a1 / (10 : Int32)))) fun v2 =>
  zif ((v1 + v2) = (1 : Int32)) (d_X0_areBeside_34 w F (1 : Int32))
  (d_X0_areBeside_34 w F (0 : Int32))
theorem b_X0_areBeside_34 {w : Wd} {F : Nat} {s0 : Int32} {h h1 : Hp} {y : Int32} {c s : Nat} (H : d_X0_areBeside_34 w F s0 h = some (y, h1, c, s)) : V w mX0_areBeside cX0_areBeside 1 c s h 34 [none, none] [.int s0] (Ro (oI y) h1) := by
  unfold d_X0_areBeside_34 at H
  obtain ⟨q, H⟩ := zgd_ok H
  obtain ⟨rfl, rfl, rfl, rfl⟩ := zrt_ok H
  exact V_zreturn eX0_areBeside_34 rfl q ⟨rfl, rfl⟩
theorem c_X0_areBeside {w : Wd} {F : Nat} {a0 : Int32} {a1 : Int32} {h h1 : Hp} {y : Int32} {c s : Nat} (H : o_X0_areBeside w F a0 a1 h = some (y, h1, c, s)) : Con w mX0_areBeside cX0_areBeside 1 c s [.int a0, .int a1] h (Ro (oI y) h1) := by
  unfold o_X0_areBeside at H
  refine Con.of (ls := [some (.int a0), some (.int a1)]) (by decide +kernel) rfl rfl ?_
  refine V_iload0 eX0_areBeside_0 ?_
  refine V_bipush (v := 10) (by decide) eX0_areBeside_1 ?_
  refine V_irem (by decide) eX0_areBeside_3 ?_
  refine V_iload1 eX0_areBeside_4 ?_
  refine V_bipush (v := 10) (by decide) eX0_areBeside_5 ?_
  refine V_irem (by decide) eX0_areBeside_7 ?_
  refine V_isub eX0_areBeside_8 ?_
  refine D_callI (pc' := 12) (st := []) H (fun v h' c1 s1 e cb sb k => ?_) (fun v1 h c s H => ?_)
  · exact V_invokestatic eX0_areBeside_9 lmJ6_abs q925 q926 (c_J6_abs e) (hRet_oI _ _) rfl rfl rfl rfl (kOI k)
  refine V_iload0 eX0_areBeside_12 ?_
  refine V_bipush (v := 10) (by decide) eX0_areBeside_13 ?_
  refine V_idiv (by decide) eX0_areBeside_15 ?_
  refine V_iload1 eX0_areBeside_16 ?_
  refine V_bipush (v := 10) (by decide) eX0_areBeside_17 ?_
  refine V_idiv (by decide) eX0_areBeside_19 ?_
  refine V_isub eX0_areBeside_20 ?_
  refine D_callI (pc' := 24) (st := [.int v1]) H (fun v h' c1 s1 e cb sb k => ?_) (fun v2 h c s H => ?_)
  · exact V_invokestatic eX0_areBeside_21 lmJ6_abs q925 q926 (c_J6_abs e) (hRet_oI _ _) rfl rfl rfl rfl (kOI k)
  refine V_iadd eX0_areBeside_24 ?_
  refine V_iconst (v := 1) (by decide) eX0_areBeside_25 ?_
  refine V_if_icmpne eX0_areBeside_26 (fun q => ?_) (fun q => ?_)
  · have H := zif_f q H
    refine V_iconst (v := 0) (by decide) eX0_areBeside_33 ?_
    exact V_fg2 (b_X0_areBeside_34 H) (zfg_n (zfg_n zfg_e))
  · have H := zif_t q H
    refine V_iconst (v := 1) (by decide) eX0_areBeside_29 ?_
    refine V_goto eX0_areBeside_30 ?_
    exact V_fg2 (b_X0_areBeside_34 H) (zfg_n (zfg_n zfg_e))
theorem fq_X15_35_tI : FQ RX15 35 f_X15_many tI := by
  intro k j e
  unfold f_X15_many at e
  split at e
  · cases e; exact ⟨fl_X15_35_15, Or.inl rfl⟩
  · cases e
theorem fq_X15_9_tR : FQ RX15 9 f_X15_way tR := by
  intro k j e
  unfold f_X15_way at e
  split at e
  · cases e; exact ⟨fl_X15_9_15, Or.inr ⟨_, rfl⟩⟩
  · cases e
def d_X15_has_28 (w : Wd) (F : Nat) (k4 : Int32 → Int32 → M Int32) (x : Nat) (a1 : Int32) (a3 : Int32) (s0 : Int32) (s1 : Int32) : M Int32 :=
  k4 (s0 ||| s1) (a3 + (1 : Int32))
def B_X15_has_4 (w : Wd) (F : Nat) (k4 : Int32 → Int32 → M Int32) (x : Nat) (a1 : Int32) (a2 : Int32) (a3 : Int32) : M Int32 :=
  zbd (zgI f_X15_many (some x)) fun v1 =>
  zif (v1 ≤ a3) (zbd (zgd (a2 = 0 ∨ a2 = 1)) fun _ => zrt a2)
  (zbd (zgR f_X15_way (some x)) fun v2 =>
  zbd (zaI 0 v2 a3) fun v3 =>
  zif (v3 = a1) (d_X15_has_28 w F k4 x a1 a3 a2 (1 : Int32))
  (d_X15_has_28 w F k4 x a1 a3 a2 (0 : Int32)))
def d_X15_has_4 (w : Wd) (F : Nat) (x : Nat) (a1 : Int32) : Nat → Int32 → Int32 → M Int32
  | 0, _, _ => zno
  | n + 1, a2, a3 => B_X15_has_4 w F (d_X15_has_4 w F x a1 n) x a1 a2 a3
def o_X15_has (w : Wd) (F : Nat) (x : Nat) (a1 : Int32) : M Int32 :=
  d_X15_has_4 w F x a1 F (0 : Int32) (0 : Int32)
theorem b_X15_has_28 {w : Wd} {F : Nat} {k4 : Int32 → Int32 → M Int32} {x : Nat} {a1 : Int32} (hk4 : ∀ (a2 : Int32) (a3 : Int32) (h : Hp) (y : Int32) (h1 : Hp) (c s : Nat), k4 a2 a3 h = some (y, h1, c, s) → V w mX15_has cX15_has 0 c s h 4 [some (va_rf (some x)), some (.int a1), some (.int a2), some (.int a3)] [] (Ro (oI y) h1)) {a3 : Int32} {s0 : Int32} {s1 : Int32} {h h1 : Hp} {y : Int32} {c s : Nat} (H : d_X15_has_28 w F k4 x a1 a3 s0 s1 h = some (y, h1, c, s)) : V w mX15_has cX15_has 0 c s h 28 [some (va_rf (some x)), some (.int a1), none, some (.int a3)] [.int s1, .int s0] (Ro (oI y) h1) := by
  unfold d_X15_has_28 at H
  refine V_ior eX15_has_28 ?_
  refine V_istore2 rfl eX15_has_29 rfl ?_
  refine V_iinc3 rfl eX15_has_30 rfl (v := 1) (by decide) ?_
  refine V_goto eX15_has_33 ?_
  exact V_fg2 (hk4 _ _ _ _ _ _ _ H) (zfg_k (zfg_k (zfg_k (zfg_k zfg_e))))
theorem bB_X15_has_4 {w : Wd} {F : Nat} {k4 : Int32 → Int32 → M Int32} {x : Nat} {a1 : Int32} (hk4 : ∀ (a2 : Int32) (a3 : Int32) (h : Hp) (y : Int32) (h1 : Hp) (c s : Nat), k4 a2 a3 h = some (y, h1, c, s) → V w mX15_has cX15_has 0 c s h 4 [some (va_rf (some x)), some (.int a1), some (.int a2), some (.int a3)] [] (Ro (oI y) h1)) {a2 : Int32} {a3 : Int32} {h h1 : Hp} {y : Int32} {c s : Nat} (H : B_X15_has_4 w F k4 x a1 a2 a3 h = some (y, h1, c, s)) : V w mX15_has cX15_has 0 c s h 4 [some (va_rf (some x)), some (.int a1), some (.int a2), some (.int a3)] [] (Ro (oI y) h1) := by
  unfold B_X15_has_4 at H
  refine V_iload3 eX15_has_4 ?_
  refine V_aload0 eX15_has_5 (zrf_rf _) ?_
  refine D_gI eX15_has_6 fq_X15_35_tI H (fun v1 H => ?_)
  refine V_if_icmpge eX15_has_9 (fun q => ?_) (fun q => ?_)
  · have H := zif_t q H
    refine V_iload2 eX15_has_36 ?_
    obtain ⟨q, H⟩ := zgd_ok H
    obtain ⟨rfl, rfl, rfl, rfl⟩ := zrt_ok H
    exact V_zreturn eX15_has_37 rfl q ⟨rfl, rfl⟩
  · have H := zif_f q H
    refine V_iload2 eX15_has_12 ?_
    refine V_aload0 eX15_has_13 (zrf_rf _) ?_
    refine D_gR eX15_has_14 fq_X15_9_tR H (fun v2 H => ?_)
    refine V_iload3 eX15_has_17 ?_
    refine D_iaload eX15_has_18 H (fun v3 H => ?_)
    refine V_iload1 eX15_has_19 ?_
    refine V_if_icmpne eX15_has_20 (fun q => ?_) (fun q => ?_)
    · have H := zif_f q H
      refine V_iconst (v := 0) (by decide) eX15_has_27 ?_
      exact V_fg2 (b_X15_has_28 hk4 H) (zfg_k (zfg_k (zfg_n (zfg_k zfg_e))))
    · have H := zif_t q H
      refine V_iconst (v := 1) (by decide) eX15_has_23 ?_
      refine V_goto eX15_has_24 ?_
      exact V_fg2 (b_X15_has_28 hk4 H) (zfg_k (zfg_k (zfg_n (zfg_k zfg_e))))
theorem b_X15_has_4 {w : Wd} {F : Nat} {x : Nat} {a1 : Int32} : ∀ (n : Nat) (a2 : Int32) (a3 : Int32) (h : Hp) (y : Int32) (h1 : Hp) (c s : Nat), d_X15_has_4 w F x a1 n a2 a3 h = some (y, h1, c, s) → V w mX15_has cX15_has 0 c s h 4 [some (va_rf (some x)), some (.int a1), some (.int a2), some (.int a3)] [] (Ro (oI y) h1) := by
  intro n
  induction n with
  | zero => intro a2 a3 h y h1 c s H; exact zno_no H
  | succ n ih => intro a2 a3 h y h1 c s H; exact bB_X15_has_4 ih H
theorem c_X15_has {w : Wd} {F : Nat} {x : Nat} {a1 : Int32} {h h1 : Hp} {y : Int32} {c s : Nat} (H : o_X15_has w F x a1 h = some (y, h1, c, s)) : Con w mX15_has cX15_has 0 c s [.ref x, .int a1] h (Ro (oI y) h1) := by
  unfold o_X15_has at H
  refine Con.of (ls := [some (va_rf (some x)), some (.int a1), none, none]) (by decide +kernel) rfl rfl ?_
  refine V_iconst (v := 0) (by decide) eX15_has_0 ?_
  refine V_istore2 rfl eX15_has_1 rfl ?_
  refine V_iconst (v := 0) (by decide) eX15_has_2 ?_
  refine V_istore3 rfl eX15_has_3 rfl ?_
  exact V_fg2 (b_X15_has_4 _ _ _ _ _ _ _ _ H) (zfg_k (zfg_k (zfg_k (zfg_k zfg_e))))
def f_X16_place : Nat → Option Nat := fun k => match k with
  | 16 => some 6
  | _ => none
theorem fq_X16_7_tN : FQ RX16 7 f_X16_place tN := by
  intro k j e
  unfold f_X16_place at e
  split at e
  · cases e; exact ⟨fl_X16_7_16, rfl⟩
  · cases e
theorem fn_X16_init_7 : FN mX16_init 7 f_X16_place := by
  intro k j e
  unfold f_X16_place at e
  split at e
  · cases e; exact Or.inr ⟨rfl, rfl, rfl, _, q900, rfl⟩
  · cases e
def o_X16_init (w : Wd) (F : Nat) (x : Nat) (a1 : Int32) : M Unit :=
  zbd (o_J9_init w F x none none (0 : Int32) (0 : Int32)) fun _ =>
  zbd (zpI f_X16_place (some x) a1) fun _ =>
  zrt ()
theorem c_X16_init {w : Wd} {F : Nat} {x : Nat} {a1 : Int32} {h h1 : Hp} {y : Unit} {c s : Nat} (H : o_X16_init w F x a1 h = some (y, h1, c, s)) : Con w mX16_init cX16_init 3 c s [.ref x, .int a1] h (Ro (oU y) h1) := by
  unfold o_X16_init at H
  refine Con.of (ls := [some (va_rf (some x)), some (.int a1)]) (by decide +kernel) rfl rfl ?_
  refine V_aload0 eX16_init_0 (zrf_rf _) ?_
  refine D_null eX16_init_1 ?_
  refine D_null eX16_init_2 ?_
  refine V_iconst (v := 0) (by decide) eX16_init_3 ?_
  refine V_iconst (v := 0) (by decide) eX16_init_4 ?_
  refine D_callU (pc' := 8) (st := []) H (fun v h' c1 s1 e cb sb k => ?_) (fun v1 h c s H => ?_)
  · exact V_invokeinit eX16_init_5 lmJ9_init rfl rfl q899 q403 (c_J9_init e) (hRet_oU _ _) rfl rfl rfl rfl (kOU k)
  refine V_aload0 eX16_init_8 (zrf_rf _) ?_
  refine V_iload1 eX16_init_9 ?_
  refine D_pI eX16_init_10 fq_X16_7_tN fn_X16_init_7 H (fun h H => ?_)
  obtain ⟨rfl, rfl, rfl, rfl⟩ := zrt_ok H
  exact V_return (x := ()) eX16_init_13 rfl ⟨rfl, rfl⟩
theorem fq_X0_228_tN : FQ RX0 228 f_X15_many tN := by
  intro k j e
  unfold f_X15_many at e
  split at e
  · cases e; exact ⟨fl_X0_228_15, rfl⟩
  · cases e
theorem fn_X0_walk_228 : FN mX0_walk 228 f_X15_many := by
  intro k j e
  unfold f_X15_many at e
  split at e
  · cases e; exact Or.inl rfl
  · cases e
def f_X15_from : Nat → Option Nat := fun k => match k with
  | 13 => some 2
  | 15 => some 2
  | 18 => some 2
  | _ => none
theorem fq_X0_221_tR : FQ RX0 221 f_X15_from tR := by
  intro k j e
  unfold f_X15_from at e
  split at e
  · cases e; exact ⟨fl_X0_221_13, Or.inl ⟨_, rfl⟩⟩
  · cases e; exact ⟨fl_X0_221_15, Or.inl ⟨_, rfl⟩⟩
  · cases e; exact ⟨fl_X0_221_18, Or.inl ⟨_, rfl⟩⟩
  · cases e
def f_X15_to : Nat → Option Nat := fun k => match k with
  | 13 => some 3
  | 15 => some 3
  | 18 => some 3
  | _ => none
theorem fq_X0_206_tR : FQ RX0 206 f_X15_to tR := by
  intro k j e
  unfold f_X15_to at e
  split at e
  · cases e; exact ⟨fl_X0_206_13, Or.inl ⟨_, rfl⟩⟩
  · cases e; exact ⟨fl_X0_206_15, Or.inl ⟨_, rfl⟩⟩
  · cases e; exact ⟨fl_X0_206_18, Or.inl ⟨_, rfl⟩⟩
  · cases e
def d_X0_walk_100 (w : Wd) (F : Nat) (a3 : Int32) : M (Unit ⊕ Nat) :=
  zbd (znw 16 0 7) fun n4 =>
  zbd (znn n4 (fun a => o_X16_init w F a a3)) fun _ =>
  znn n4 (fun a => zrt (Sum.inr a))
def d_X0_walk_109 (w : Wd) (F : Nat) (k2 : Int32 → M (Unit ⊕ Nat)) (a1 : Option Nat) (a2 : Option Nat) (a3 : Int32) (a4 : Int32) : M (Unit ⊕ Nat) :=
  zbd (zgR f_X15_way a1) fun v8 =>
  zbd (zgI f_X15_many a1) fun v9 =>
  zbd (zpI f_X15_many a1 (v9 + (1 : Int32))) fun _ =>
  zbd (zsI 0 v8 v9 a4) fun _ =>
  k2 (a3 + (1 : Int32))
def d_X0_walk_24 (w : Wd) (F : Nat) (k2 : Int32 → M (Unit ⊕ Nat)) (a1 : Option Nat) (a2 : Option Nat) (a3 : Int32) : M (Unit ⊕ Nat) :=
  zbd (zvn (t_X25_size w F) a2) fun v1 =>
  zif (a3 < v1) (zbd (zvn (t_X25_get w F a3) a2) fun v2 =>
  zbd (o_X0_isCell w F v2) fun v3 =>
  zif (v3 = 0) (d_X0_walk_100 w F a3)
  (zbd (zv1 15 a1 (fun a => o_X15_has w F a v2)) fun v4 =>
  zif (v4 = 0) (zif (a3 = 0) (zbd (zgR f_X15_from a1) fun v8 =>
  zbd (zgI f_X3_cell v8) fun v9 =>
  zif (v2 = v9) (d_X0_walk_109 w F k2 a1 a2 a3 v2)
  (d_X0_walk_100 w F a3))
  (zbd (zgR f_X15_way a1) fun v5 =>
  zbd (zaI 0 v5 (a3 - (1 : Int32))) fun v6 =>
  zbd (o_X0_areBeside w F v6 v2) fun v7 =>
  zif (v7 = 0) (d_X0_walk_100 w F a3)
  (d_X0_walk_109 w F k2 a1 a2 a3 v2)))
  (d_X0_walk_100 w F a3)))
  (zbd (znw 16 0 7) fun n10 =>
  zbd (znn n10 (fun a => o_X16_init w F a a3)) fun _ =>
  znn n10 (fun a => zrt (Sum.inr a)))
def B_X0_walk_2 (w : Wd) (F : Nat) (k2 : Int32 → M (Unit ⊕ Nat)) (a1 : Option Nat) (a2 : Option Nat) (a3 : Int32) : M (Unit ⊕ Nat) :=
  zif (a3 = 0) (d_X0_walk_24 w F k2 a1 a2 a3)
  (zbd (zgR f_X15_way a1) fun v1 =>
  zbd (zaI 0 v1 (a3 - (1 : Int32))) fun v2 =>
  zbd (zgR f_X15_to a1) fun v3 =>
  zbd (zgI f_X3_cell v3) fun v4 =>
  zif (v2 = v4) (zrt (Sum.inl ()))
  (d_X0_walk_24 w F k2 a1 a2 a3))
def d_X0_walk_2 (w : Wd) (F : Nat) (a1 : Option Nat) (a2 : Option Nat) : Nat → Int32 → M (Unit ⊕ Nat)
  | 0, _ => zno
  | n + 1, a3 => B_X0_walk_2 w F (d_X0_walk_2 w F a1 a2 n) a1 a2 a3
def o_X0_walk (w : Wd) (F : Nat) (x : Nat) (a1 : Option Nat) (a2 : Option Nat) : M (Unit ⊕ Nat) :=
  d_X0_walk_2 w F a1 a2 F (0 : Int32)
theorem b_X0_walk_100 {w : Wd} {F : Nat} {a3 : Int32} {h h1 : Hp} {y : (Unit ⊕ Nat)} {c s : Nat} (H : d_X0_walk_100 w F a3 h = some (y, h1, c, s)) : V w mX0_walk cX0_walk 4 c s h 100 [none, none, none, some (.int a3), none] [] (Ro (oX oU y) h1) := by
  unfold d_X0_walk_100 at H
  refine D_new (g := 0) eX0_walk_100 nl_X0_211 rfl H (fun n4 h c s H => ?_)
  refine V_dup (zcr _) eX0_walk_103 ?_
  refine V_iload3 eX0_walk_104 ?_
  refine D_callU (pc' := 108) (st := [va_rf n4]) H (fun v h' c1 s1 e cb sb k => ?_) (fun v5 h c s H => ?_)
  · obtain ⟨a, hr, e9⟩ := znn_ok e
    cases hr
    exact V_invokeinit eX0_walk_105 lmX16_init rfl rfl q896 q897 (c_X16_init e9) (hRet_oU _ _) rfl rfl rfl (by simp only [List.map_cons, List.map_nil, zcr]; rfl) (kOU k)
  obtain ⟨a9, hr9, H⟩ := znn_ok H
  cases hr9
  obtain ⟨rfl, rfl, rfl, rfl⟩ := zrt_ok H
  exact V_athrow eX0_walk_108 rfl ⟨rfl, rfl⟩
theorem b_X0_walk_109 {w : Wd} {F : Nat} {k2 : Int32 → M (Unit ⊕ Nat)} {a1 : Option Nat} {a2 : Option Nat} (hk2 : ∀ (a3 : Int32) (h : Hp) (y : (Unit ⊕ Nat)) (h1 : Hp) (c s : Nat), k2 a3 h = some (y, h1, c, s) → V w mX0_walk cX0_walk 4 c s h 2 [none, some (va_rf a1), some (va_rf a2), some (.int a3), none] [] (Ro (oX oU y) h1)) {a3 : Int32} {a4 : Int32} {h h1 : Hp} {y : (Unit ⊕ Nat)} {c s : Nat} (H : d_X0_walk_109 w F k2 a1 a2 a3 a4 h = some (y, h1, c, s)) : V w mX0_walk cX0_walk 4 c s h 109 [none, some (va_rf a1), some (va_rf a2), some (.int a3), some (.int a4)] [] (Ro (oX oU y) h1) := by
  unfold d_X0_walk_109 at H
  refine V_aload1 eX0_walk_109 (zrf_rf _) ?_
  refine D_gR eX0_walk_110 fq_X0_203_tR H (fun v8 H => ?_)
  refine V_aload1 eX0_walk_113 (zrf_rf _) ?_
  refine V_dup (zcr _) eX0_walk_114 ?_
  refine D_gI eX0_walk_115 fq_X0_228_tI H (fun v9 H => ?_)
  refine V_dup_x1 rfl (zcr _) eX0_walk_118 ?_
  refine V_iconst (v := 1) (by decide) eX0_walk_119 ?_
  refine V_iadd eX0_walk_120 ?_
  refine D_pI eX0_walk_121 fq_X0_228_tN fn_X0_walk_228 H (fun h H => ?_)
  refine V_iload4 eX0_walk_124 ?_
  refine D_iastore eX0_walk_126 H (fun h H => ?_)
  refine V_iinc3 (znl_rf _) eX0_walk_127 rfl (v := 1) (by decide) ?_
  refine V_goto eX0_walk_130 ?_
  exact V_fg2 (hk2 _ _ _ _ _ _ H) (zfg_n (zfg_k (zfg_k (zfg_k (zfg_n zfg_e)))))
theorem b_X0_walk_24 {w : Wd} {F : Nat} {k2 : Int32 → M (Unit ⊕ Nat)} {a1 : Option Nat} {a2 : Option Nat} (hk2 : ∀ (a3 : Int32) (h : Hp) (y : (Unit ⊕ Nat)) (h1 : Hp) (c s : Nat), k2 a3 h = some (y, h1, c, s) → V w mX0_walk cX0_walk 4 c s h 2 [none, some (va_rf a1), some (va_rf a2), some (.int a3), none] [] (Ro (oX oU y) h1)) {a3 : Int32} {h h1 : Hp} {y : (Unit ⊕ Nat)} {c s : Nat} (H : d_X0_walk_24 w F k2 a1 a2 a3 h = some (y, h1, c, s)) : V w mX0_walk cX0_walk 4 c s h 24 [none, some (va_rf a1), some (va_rf a2), some (.int a3), none] [] (Ro (oX oU y) h1) := by
  unfold d_X0_walk_24 at H
  refine V_iload3 eX0_walk_24 ?_
  refine V_aload2 eX0_walk_25 (zrf_rf _) ?_
  refine D_callI (pc' := 29) (st := [.int a3]) H (fun v h' c1 s1 e cb sb k => ?_) (fun v1 h c s H => ?_)
  · obtain ⟨a, f, hr, ha, ht, e9⟩ := zvn_ok e
    cases hr
    rcases t_X25_size_ok ht with ⟨hk, hf⟩ | ⟨hk, hf⟩ | ⟨hk, hf⟩
    · subst hf; exact V_invokevirtualU (k := 26) eX0_walk_26 lmX26_size (⟨"LinesPromised$Sheet", q876, q878, q879, q880, q139, ⟨by decide, by decide⟩, rfl, Or.inr (Or.inr q877)⟩) (by decide) ha hk (c_X26_size e9) (hRet_oI _ _) rfl rfl rfl rfl (kOI k)
    · subst hf; exact V_invokevirtualU (k := 27) eX0_walk_26 lmX27_size (⟨"LinesPromised$Sheet", q876, q878, q882, q883, q140, ⟨by decide, by decide⟩, rfl, Or.inr (Or.inr q877)⟩) (by decide) ha hk (c_X27_size e9) (hRet_oI _ _) rfl rfl rfl rfl (kOI k)
    · subst hf; exact V_invokevirtualU (k := 28) eX0_walk_26 lmX28_size (⟨"LinesPromised$Sheet", q876, q878, q885, q886, q141, ⟨by decide, by decide⟩, rfl, Or.inr (Or.inr q877)⟩) (by decide) ha hk (c_X28_size e9) (hRet_oI _ _) rfl rfl rfl rfl (kOI k)
  refine V_if_icmplt eX0_walk_29 (fun q => ?_) (fun q => ?_)
  · have H := zif_t q H
    refine V_aload2 eX0_walk_41 (zrf_rf _) ?_
    refine V_iload3 eX0_walk_42 ?_
    refine D_callI (pc' := 46) (st := []) H (fun v h' c1 s1 e cb sb k => ?_) (fun v2 h c s H => ?_)
    · obtain ⟨a, f, hr, ha, ht, e9⟩ := zvn_ok e
      cases hr
      rcases t_X25_get_ok ht with ⟨hk, hf⟩ | ⟨hk, hf⟩ | ⟨hk, hf⟩
      · subst hf; exact V_invokevirtualU (k := 26) eX0_walk_43 lmX26_get (⟨"LinesPromised$Sheet", q906, q908, q909, q910, q139, ⟨by decide, by decide⟩, rfl, Or.inr (Or.inr q907)⟩) (by decide) ha hk (c_X26_get e9) (hRet_oI _ _) rfl rfl rfl rfl (kOI k)
      · subst hf; exact V_invokevirtualU (k := 27) eX0_walk_43 lmX27_get (⟨"LinesPromised$Sheet", q906, q908, q912, q913, q140, ⟨by decide, by decide⟩, rfl, Or.inr (Or.inr q907)⟩) (by decide) ha hk (c_X27_get e9) (hRet_oI _ _) rfl rfl rfl rfl (kOI k)
      · subst hf; exact V_invokevirtualU (k := 28) eX0_walk_43 lmX28_get (⟨"LinesPromised$Sheet", q906, q908, q915, q916, q141, ⟨by decide, by decide⟩, rfl, Or.inr (Or.inr q907)⟩) (by decide) ha hk (c_X28_get e9) (hRet_oI _ _) rfl rfl rfl rfl (kOI k)
    refine V_istore4 rfl eX0_walk_46 rfl ?_
    refine V_iload4 eX0_walk_48 ?_
    refine D_callI (pc' := 53) (st := []) H (fun v h' c1 s1 e cb sb k => ?_) (fun v3 h c s H => ?_)
    · exact V_invokestatic eX0_walk_50 lmX0_isCell q146 q147 (c_X0_isCell e) (hRet_oI _ _) rfl rfl rfl rfl (kOI k)
    refine V_ifeq eX0_walk_53 (fun q => ?_) (fun q => ?_)
    · have H := zif_t q H
      exact V_fg2 (b_X0_walk_100 H) (zfg_n (zfg_n (zfg_n (zfg_k (zfg_n zfg_e)))))
    · have H := zif_f q H
      refine V_aload1 eX0_walk_56 (zrf_rf _) ?_
      refine V_iload4 eX0_walk_57 ?_
      refine D_callI (pc' := 62) (st := []) H (fun v h' c1 s1 e cb sb k => ?_) (fun v4 h c s H => ?_)
      · obtain ⟨a, hr, ha, hk, e9⟩ := zv1_ok e
        cases hr
        exact V_invokevirtual (k := 15) eX0_walk_59 lmX15_has q918 q919 rfl rfl q920 ha hk (c_X15_has e9) (hRet_oI _ _) rfl rfl rfl rfl (kOI k)
      refine V_ifne eX0_walk_62 (fun q => ?_) (fun q => ?_)
      · have H := zif_f q H
        exact V_fg2 (b_X0_walk_100 H) (zfg_n (zfg_n (zfg_n (zfg_k (zfg_n zfg_e)))))
      · have H := zif_t q H
        refine V_iload3 eX0_walk_65 ?_
        refine V_ifne eX0_walk_66 (fun q => ?_) (fun q => ?_)
        · have H := zif_f q H
          refine V_aload1 eX0_walk_84 (zrf_rf _) ?_
          refine D_gR eX0_walk_85 fq_X0_203_tR H (fun v5 H => ?_)
          refine V_iload3 eX0_walk_88 ?_
          refine V_iconst (v := 1) (by decide) eX0_walk_89 ?_
          refine V_isub eX0_walk_90 ?_
          refine D_iaload eX0_walk_91 H (fun v6 H => ?_)
          refine V_iload4 eX0_walk_92 ?_
          refine D_callI (pc' := 97) (st := []) H (fun v h' c1 s1 e cb sb k => ?_) (fun v7 h c s H => ?_)
          · exact V_invokestatic eX0_walk_94 lmX0_areBeside q922 q923 (c_X0_areBeside e) (hRet_oI _ _) rfl rfl rfl rfl (kOI k)
          refine V_ifne eX0_walk_97 (fun q => ?_) (fun q => ?_)
          · have H := zif_f q H
            exact V_fg2 (b_X0_walk_109 hk2 H) (zfg_n (zfg_k (zfg_k (zfg_k (zfg_k zfg_e)))))
          · have H := zif_t q H
            exact V_fg2 (b_X0_walk_100 H) (zfg_n (zfg_n (zfg_n (zfg_k (zfg_n zfg_e)))))
        · have H := zif_t q H
          refine V_iload4 eX0_walk_69 ?_
          refine V_aload1 eX0_walk_71 (zrf_rf _) ?_
          refine D_gR eX0_walk_72 fq_X0_221_tR H (fun v8 H => ?_)
          refine D_gI eX0_walk_75 fq_X0_44_tI H (fun v9 H => ?_)
          refine V_if_icmpeq eX0_walk_78 (fun q => ?_) (fun q => ?_)
          · have H := zif_t q H
            exact V_fg2 (b_X0_walk_109 hk2 H) (zfg_n (zfg_k (zfg_k (zfg_k (zfg_k zfg_e)))))
          · have H := zif_f q H
            refine V_goto eX0_walk_81 ?_
            exact V_fg2 (b_X0_walk_100 H) (zfg_n (zfg_n (zfg_n (zfg_k (zfg_n zfg_e)))))
  · have H := zif_f q H
    refine D_new (g := 0) eX0_walk_32 nl_X0_211 rfl H (fun n10 h c s H => ?_)
    refine V_dup (zcr _) eX0_walk_35 ?_
    refine V_iload3 eX0_walk_36 ?_
    refine D_callU (pc' := 40) (st := [va_rf n10]) H (fun v h' c1 s1 e cb sb k => ?_) (fun v11 h c s H => ?_)
    · obtain ⟨a, hr, e9⟩ := znn_ok e
      cases hr
      exact V_invokeinit eX0_walk_37 lmX16_init rfl rfl q896 q897 (c_X16_init e9) (hRet_oU _ _) rfl rfl rfl (by simp only [List.map_cons, List.map_nil, zcr]; rfl) (kOU k)
    obtain ⟨a9, hr9, H⟩ := znn_ok H
    cases hr9
    obtain ⟨rfl, rfl, rfl, rfl⟩ := zrt_ok H
    exact V_athrow eX0_walk_40 rfl ⟨rfl, rfl⟩
theorem bB_X0_walk_2 {w : Wd} {F : Nat} {k2 : Int32 → M (Unit ⊕ Nat)} {a1 : Option Nat} {a2 : Option Nat} (hk2 : ∀ (a3 : Int32) (h : Hp) (y : (Unit ⊕ Nat)) (h1 : Hp) (c s : Nat), k2 a3 h = some (y, h1, c, s) → V w mX0_walk cX0_walk 4 c s h 2 [none, some (va_rf a1), some (va_rf a2), some (.int a3), none] [] (Ro (oX oU y) h1)) {a3 : Int32} {h h1 : Hp} {y : (Unit ⊕ Nat)} {c s : Nat} (H : B_X0_walk_2 w F k2 a1 a2 a3 h = some (y, h1, c, s)) : V w mX0_walk cX0_walk 4 c s h 2 [none, some (va_rf a1), some (va_rf a2), some (.int a3), none] [] (Ro (oX oU y) h1) := by
  unfold B_X0_walk_2 at H
  refine V_iload3 eX0_walk_2 ?_
  refine V_ifeq eX0_walk_3 (fun q => ?_) (fun q => ?_)
  · have H := zif_t q H
    exact V_fg2 (b_X0_walk_24 hk2 H) (zfg_n (zfg_k (zfg_k (zfg_k (zfg_n zfg_e)))))
  · have H := zif_f q H
    refine V_aload1 eX0_walk_6 (zrf_rf _) ?_
    refine D_gR eX0_walk_7 fq_X0_203_tR H (fun v1 H => ?_)
    refine V_iload3 eX0_walk_10 ?_
    refine V_iconst (v := 1) (by decide) eX0_walk_11 ?_
    refine V_isub eX0_walk_12 ?_
    refine D_iaload eX0_walk_13 H (fun v2 H => ?_)
    refine V_aload1 eX0_walk_14 (zrf_rf _) ?_
    refine D_gR eX0_walk_15 fq_X0_206_tR H (fun v3 H => ?_)
    refine D_gI eX0_walk_18 fq_X0_44_tI H (fun v4 H => ?_)
    refine V_if_icmpeq eX0_walk_21 (fun q => ?_) (fun q => ?_)
    · have H := zif_t q H
      obtain ⟨rfl, rfl, rfl, rfl⟩ := zrt_ok H
      exact V_return (x := ()) eX0_walk_133 rfl ⟨rfl, rfl⟩
    · have H := zif_f q H
      exact V_fg2 (b_X0_walk_24 hk2 H) (zfg_n (zfg_k (zfg_k (zfg_k (zfg_n zfg_e)))))
theorem b_X0_walk_2 {w : Wd} {F : Nat} {a1 : Option Nat} {a2 : Option Nat} : ∀ (n : Nat) (a3 : Int32) (h : Hp) (y : (Unit ⊕ Nat)) (h1 : Hp) (c s : Nat), d_X0_walk_2 w F a1 a2 n a3 h = some (y, h1, c, s) → V w mX0_walk cX0_walk 4 c s h 2 [none, some (va_rf a1), some (va_rf a2), some (.int a3), none] [] (Ro (oX oU y) h1) := by
  intro n
  induction n with
  | zero => intro a3 h y h1 c s H; exact zno_no H
  | succ n ih => intro a3 h y h1 c s H; exact bB_X0_walk_2 ih H
theorem c_X0_walk {w : Wd} {F : Nat} {x : Nat} {a1 : Option Nat} {a2 : Option Nat} {h h1 : Hp} {y : (Unit ⊕ Nat)} {c s : Nat} (H : o_X0_walk w F x a1 a2 h = some (y, h1, c, s)) : Con w mX0_walk cX0_walk 4 c s [.ref x, va_rf a1, va_rf a2] h (Ro (oX oU y) h1) := by
  unfold o_X0_walk at H
  refine Con.of (ls := [some (va_rf (some x)), some (va_rf a1), some (va_rf a2), none, none]) (by decide +kernel) (by simp only [zsl_r, zsl_i, zsl_l, zsl_n, zsl_a]; rfl) (by simp only [zar_r, zar_i, zar_l, zar_n, zar_a]; rfl) ?_
  refine V_iconst (v := 0) (by decide) eX0_walk_0 ?_
  refine V_istore3 (znl_rf _) eX0_walk_1 rfl ?_
  exact V_fg2 (b_X0_walk_2 _ _ _ _ _ _ _ H) (zfg_n (zfg_k (zfg_k (zfg_k (zfg_n zfg_e)))))
theorem fq_X14_3_tR : FQ RX14 3 f_X13_from tR := by
  intro k j e
  unfold f_X13_from at e
  split at e
  · cases e; exact ⟨fl_X14_3_13, Or.inl ⟨_, rfl⟩⟩
  · cases e; exact ⟨fl_X14_3_15, Or.inl ⟨_, rfl⟩⟩
  · cases e; exact ⟨fl_X14_3_18, Or.inl ⟨_, rfl⟩⟩
  · cases e
theorem fq_X14_9_tR : FQ RX14 9 f_X13_to tR := by
  intro k j e
  unfold f_X13_to at e
  split at e
  · cases e; exact ⟨fl_X14_9_13, Or.inl ⟨_, rfl⟩⟩
  · cases e; exact ⟨fl_X14_9_15, Or.inl ⟨_, rfl⟩⟩
  · cases e; exact ⟨fl_X14_9_18, Or.inl ⟨_, rfl⟩⟩
  · cases e
theorem fq_X14_12_tI : FQ RX14 12 f_X13_gauge tI := by
  intro k j e
  unfold f_X13_gauge at e
  split at e
  · cases e; exact ⟨fl_X14_12_13, Or.inl rfl⟩
  · cases e; exact ⟨fl_X14_12_15, Or.inl rfl⟩
  · cases e; exact ⟨fl_X14_12_18, Or.inl rfl⟩
  · cases e
theorem fq_X14_16_tI : FQ RX14 16 f_X13_shares tI := by
  intro k j e
  unfold f_X13_shares at e
  split at e
  · cases e; exact ⟨fl_X14_16_13, Or.inl rfl⟩
  · cases e; exact ⟨fl_X14_16_15, Or.inl rfl⟩
  · cases e; exact ⟨fl_X14_16_18, Or.inl rfl⟩
  · cases e
def f_X14_scheme : Nat → Option Nat := fun k => match k with
  | 15 => some 12
  | 18 => some 12
  | _ => none
theorem fq_X14_23_tR : FQ RX14 23 f_X14_scheme tR := by
  intro k j e
  unfold f_X14_scheme at e
  split at e
  · cases e; exact ⟨fl_X14_23_15, Or.inl ⟨_, rfl⟩⟩
  · cases e; exact ⟨fl_X14_23_18, Or.inl ⟨_, rfl⟩⟩
  · cases e
theorem fn_X14_init_23 : FN mX14_init 23 f_X14_scheme := by
  intro k j e
  unfold f_X14_scheme at e
  split at e
  · cases e; exact Or.inr ⟨rfl, rfl, rfl, _, q845, rfl⟩
  · cases e; exact Or.inr ⟨rfl, rfl, rfl, _, q845, rfl⟩
  · cases e
def o_X14_init (w : Wd) (F : Nat) (x : Nat) (a1 : Int32) (a2 : Int32) (a3 : Option Nat) : M Unit :=
  zbd (zgR f_X13_from a3) fun v1 =>
  zbd (zgR f_X13_to a3) fun v2 =>
  zbd (zgI f_X13_gauge a3) fun v3 =>
  zbd (zgI f_X13_shares a3) fun v4 =>
  zbd (o_X13_init w F x a1 a2 (-1 : Int32) v1 v2 v3 v4) fun _ =>
  zbd (zpR f_X14_scheme (some x) a3) fun _ =>
  zrt ()
theorem c_X14_init {w : Wd} {F : Nat} {x : Nat} {a1 : Int32} {a2 : Int32} {a3 : Option Nat} {h h1 : Hp} {y : Unit} {c s : Nat} (H : o_X14_init w F x a1 a2 a3 h = some (y, h1, c, s)) : Con w mX14_init cX14_init 3 c s [.ref x, .int a1, .int a2, va_rf a3] h (Ro (oU y) h1) := by
  unfold o_X14_init at H
  refine Con.of (ls := [some (va_rf (some x)), some (.int a1), some (.int a2), some (va_rf a3)]) (by decide +kernel) (by simp only [zsl_r, zsl_i, zsl_l, zsl_n, zsl_a]; rfl) (by simp only [zar_r, zar_i, zar_l, zar_n, zar_a]; rfl) ?_
  refine V_aload0 eX14_init_0 (zrf_rf _) ?_
  refine V_iload1 eX14_init_1 ?_
  refine V_iload2 eX14_init_2 ?_
  refine V_iconst (v := -1) (by decide) eX14_init_3 ?_
  refine V_aload3 eX14_init_4 (zrf_rf _) ?_
  refine D_gR eX14_init_5 fq_X14_3_tR H (fun v1 H => ?_)
  refine V_aload3 eX14_init_8 (zrf_rf _) ?_
  refine D_gR eX14_init_9 fq_X14_9_tR H (fun v2 H => ?_)
  refine V_aload3 eX14_init_12 (zrf_rf _) ?_
  refine D_gI eX14_init_13 fq_X14_12_tI H (fun v3 H => ?_)
  refine V_aload3 eX14_init_16 (zrf_rf _) ?_
  refine D_gI eX14_init_17 fq_X14_16_tI H (fun v4 H => ?_)
  refine D_callU (pc' := 23) (st := []) H (fun v h' c1 s1 e cb sb k => ?_) (fun v5 h c s H => ?_)
  · exact V_invokeinit eX14_init_20 lmX13_init rfl rfl q834 q712 (c_X13_init e) (hRet_oU _ _) rfl rfl rfl rfl (kOU k)
  refine V_aload0 eX14_init_23 (zrf_rf _) ?_
  refine V_aload3 eX14_init_24 (zrf_rf _) ?_
  refine D_pR eX14_init_25 fq_X14_23_tR fn_X14_init_23 H (fun h H => ?_)
  obtain ⟨rfl, rfl, rfl, rfl⟩ := zrt_ok H
  exact V_return (x := ()) eX14_init_28 rfl ⟨rfl, rfl⟩
