set_option maxRecDepth 100000
def o_J0_init (w : Wd) (F : Nat) (x : Nat) : M Unit :=
  zrt ()
theorem c_J0_init {w : Wd} {F : Nat} {x : Nat} {h h1 : Hp} {y : Unit} {c s : Nat} (H : o_J0_init w F x h = some (y, h1, c, s)) : Con w mJ0_init cJ0_init 1 c s [.ref x] h (Ro (oU y) h1) := by
  unfold o_J0_init at H
  refine Con.ofF (ls := [some (va_rf (some x))]) (by decide +kernel) rfl rfl ?_
  refine V_aload0 eJ0_init_0 (zrf_rf _) ?_
  refine V_objectinit eJ0_init_1 q316 q180 q181 rfl rfl ?_
  obtain ⟨rfl, rfl, rfl, rfl⟩ := zrt_ok H
  exact V_return (x := ()) eJ0_init_4 rfl ⟨rfl, rfl⟩
def f_J1_modCount : Nat → Option Nat := fun k => match k with
  | 30 => some 0
  | _ => none
theorem fq_J1_7_tN : FQ RJ1 7 f_J1_modCount tN := by
  intro k j e
  unfold f_J1_modCount at e
  split at e
  · cases e; exact ⟨fl_J1_7_30, rfl⟩
  · cases e
theorem fn_J1_init_7 : FN mJ1_init 7 f_J1_modCount := by
  intro k j e
  unfold f_J1_modCount at e
  split at e
  · cases e; exact Or.inl rfl
  · cases e
def o_J1_init (w : Wd) (F : Nat) (x : Nat) : M Unit :=
  zbd (o_J0_init w F x) fun _ =>
  zbd (zpI f_J1_modCount (some x) (0 : Int32)) fun _ =>
  zrt ()
theorem c_J1_init {w : Wd} {F : Nat} {x : Nat} {h h1 : Hp} {y : Unit} {c s : Nat} (H : o_J1_init w F x h = some (y, h1, c, s)) : Con w mJ1_init cJ1_init 2 c s [.ref x] h (Ro (oU y) h1) := by
  unfold o_J1_init at H
  refine Con.ofF (ls := [some (va_rf (some x))]) (by decide +kernel) rfl rfl ?_
  refine V_aload0 eJ1_init_0 (zrf_rf _) ?_
  refine D_callU (pc' := 4) (st := []) H (fun v h' c1 s1 e cb sb k => ?_) (fun v1 h c s H => ?_)
  · exact V_invokeinit eJ1_init_1 lmJ0_init rfl rfl q313 q314 (c_J0_init e) (hRet_oU _ _) rfl rfl rfl rfl (kOU k)
  refine V_aload0 eJ1_init_4 (zrf_rf _) ?_
  refine V_iconst (v := 0) (by decide) eJ1_init_5 ?_
  refine D_pI eJ1_init_6 fq_J1_7_tN fn_J1_init_7 H (fun h H => ?_)
  obtain ⟨rfl, rfl, rfl, rfl⟩ := zrt_ok H
  exact V_return (x := ()) eJ1_init_9 rfl ⟨rfl, rfl⟩
def o_J13_bitCount (w : Wd) (F : Nat) (a0 : Int32) : M Int32 :=
  zrt ((((((((a0 - (((a0).toUInt32 >>> (((1 : Int32)).toUInt32 &&& Int32.toUInt32 31)).toInt32 &&& (1431655765 : Int32))) &&& (858993459 : Int32)) + ((((a0 - (((a0).toUInt32 >>> (((1 : Int32)).toUInt32 &&& Int32.toUInt32 31)).toInt32 &&& (1431655765 : Int32)))).toUInt32 >>> (((2 : Int32)).toUInt32 &&& Int32.toUInt32 31)).toInt32 &&& (858993459 : Int32))) + (((((a0 - (((a0).toUInt32 >>> (((1 : Int32)).toUInt32 &&& Int32.toUInt32 31)).toInt32 &&& (1431655765 : Int32))) &&& (858993459 : Int32)) + ((((a0 - (((a0).toUInt32 >>> (((1 : Int32)).toUInt32 &&& Int32.toUInt32 31)).toInt32 &&& (1431655765 : Int32)))).toUInt32 >>> (((2 : Int32)).toUInt32 &&& Int32.toUInt32 31)).toInt32 &&& (858993459 : Int32)))).toUInt32 >>> (((4 : Int32)).toUInt32 &&& Int32.toUInt32 31)).toInt32) &&& (252645135 : Int32)) + (((((((a0 - (((a0).toUInt32 >>> (((1 : Int32)).toUInt32 &&& Int32.toUInt32 31)).toInt32 &&& (1431655765 : Int32))) &&& (858993459 : Int32)) + ((((a0 - (((a0).toUInt32 >>> (((1 : Int32)).toUInt32 &&& Int32.toUInt32 31)).toInt32 &&& (1431655765 : Int32)))).toUInt32 >>> (((2 : Int32)).toUInt32 &&& Int32.toUInt32 31)).toInt32 &&& (858993459 : Int32))) + (((((a0 - (((a0).toUInt32 >>> (((1 : Int32)).toUInt32 &&& Int32.toUInt32 31)).toInt32 &&& (1431655765 : Int32))) &&& (858993459 : Int32)) + ((((a0 - (((a0).toUInt32 >>> (((1 : Int32)).toUInt32 &&& Int32.toUInt32 31)).toInt32 &&& (1431655765 : Int32)))).toUInt32 >>> (((2 : Int32)).toUInt32 &&& Int32.toUInt32 31)).toInt32 &&& (858993459 : Int32)))).toUInt32 >>> (((4 : Int32)).toUInt32 &&& Int32.toUInt32 31)).toInt32) &&& (252645135 : Int32))).toUInt32 >>> (((8 : Int32)).toUInt32 &&& Int32.toUInt32 31)).toInt32) + ((((((((a0 - (((a0).toUInt32 >>> (((1 : Int32)).toUInt32 &&& Int32.toUInt32 31)).toInt32 &&& (1431655765 : Int32))) &&& (858993459 : Int32)) + ((((a0 - (((a0).toUInt32 >>> (((1 : Int32)).toUInt32 &&& Int32.toUInt32 31)).toInt32 &&& (1431655765 : Int32)))).toUInt32 >>> (((2 : Int32)).toUInt32 &&& Int32.toUInt32 31)).toInt32 &&& (858993459 : Int32))) + (((((a0 - (((a0).toUInt32 >>> (((1 : Int32)).toUInt32 &&& Int32.toUInt32 31)).toInt32 &&& (1431655765 : Int32))) &&& (858993459 : Int32)) + ((((a0 - (((a0).toUInt32 >>> (((1 : Int32)).toUInt32 &&& Int32.toUInt32 31)).toInt32 &&& (1431655765 : Int32)))).toUInt32 >>> (((2 : Int32)).toUInt32 &&& Int32.toUInt32 31)).toInt32 &&& (858993459 : Int32)))).toUInt32 >>> (((4 : Int32)).toUInt32 &&& Int32.toUInt32 31)).toInt32) &&& (252645135 : Int32)) + (((((((a0 - (((a0).toUInt32 >>> (((1 : Int32)).toUInt32 &&& Int32.toUInt32 31)).toInt32 &&& (1431655765 : Int32))) &&& (858993459 : Int32)) + ((((a0 - (((a0).toUInt32 >>> (((1 : Int32)).toUInt32 &&& Int32.toUInt32 31)).toInt32 &&& (1431655765 : Int32)))).toUInt32 >>> (((2 : Int32)).toUInt32 &&& Int32.toUInt32 31)).toInt32 &&& (858993459 : Int32))) + (((((a0 - (((a0).toUInt32 >>> (((1 : Int32)).toUInt32 &&& Int32.toUInt32 31)).toInt32 &&& (1431655765 : Int32))) &&& (858993459 : Int32)) + ((((a0 - (((a0).toUInt32 >>> (((1 : Int32)).toUInt32 &&& Int32.toUInt32 31)).toInt32 &&& (1431655765 : Int32)))).toUInt32 >>> (((2 : Int32)).toUInt32 &&& Int32.toUInt32 31)).toInt32 &&& (858993459 : Int32)))).toUInt32 >>> (((4 : Int32)).toUInt32 &&& Int32.toUInt32 31)).toInt32) &&& (252645135 : Int32))).toUInt32 >>> (((8 : Int32)).toUInt32 &&& Int32.toUInt32 31)).toInt32)).toUInt32 >>> (((16 : Int32)).toUInt32 &&& Int32.toUInt32 31)).toInt32) &&& (63 : Int32))
theorem c_J13_bitCount {w : Wd} {F : Nat} {a0 : Int32} {h h1 : Hp} {y : Int32} {c s : Nat} (H : o_J13_bitCount w F a0 h = some (y, h1, c, s)) : Con w mJ13_bitCount cJ13_bitCount 0 c s [.int a0] h (Ro (oI y) h1) := by
  unfold o_J13_bitCount at H
  refine Con.ofF (ls := [some (.int a0)]) (by decide +kernel) rfl rfl ?_
  refine V_iload0 eJ13_bitCount_0 ?_
  refine V_iload0 eJ13_bitCount_1 ?_
  refine V_iconst (v := 1) (by decide) eJ13_bitCount_2 ?_
  refine V_iushr eJ13_bitCount_3 ?_
  refine V_ldc_w (v := 1431655765) eJ13_bitCount_4 q1592 ?_
  refine V_iand eJ13_bitCount_7 ?_
  refine V_isub eJ13_bitCount_8 ?_
  refine V_istore0 eJ13_bitCount_9 rfl ?_
  refine V_iload0 eJ13_bitCount_10 ?_
  refine V_ldc_w (v := 858993459) eJ13_bitCount_11 q1593 ?_
  refine V_iand eJ13_bitCount_14 ?_
  refine V_iload0 eJ13_bitCount_15 ?_
  refine V_iconst (v := 2) (by decide) eJ13_bitCount_16 ?_
  refine V_iushr eJ13_bitCount_17 ?_
  refine V_ldc_w (v := 858993459) eJ13_bitCount_18 q1593 ?_
  refine V_iand eJ13_bitCount_21 ?_
  refine V_iadd eJ13_bitCount_22 ?_
  refine V_istore0 eJ13_bitCount_23 rfl ?_
  refine V_iload0 eJ13_bitCount_24 ?_
  refine V_iload0 eJ13_bitCount_25 ?_
  refine V_iconst (v := 4) (by decide) eJ13_bitCount_26 ?_
  refine V_iushr eJ13_bitCount_27 ?_
  refine V_iadd eJ13_bitCount_28 ?_
  refine V_ldc_w (v := 252645135) eJ13_bitCount_29 q1594 ?_
  refine V_iand eJ13_bitCount_32 ?_
  refine V_istore0 eJ13_bitCount_33 rfl ?_
  refine V_iload0 eJ13_bitCount_34 ?_
  refine V_iload0 eJ13_bitCount_35 ?_
  refine V_bipush (v := 8) (by decide) eJ13_bitCount_36 ?_
  refine V_iushr eJ13_bitCount_38 ?_
  refine V_iadd eJ13_bitCount_39 ?_
  refine V_istore0 eJ13_bitCount_40 rfl ?_
  refine V_iload0 eJ13_bitCount_41 ?_
  refine V_iload0 eJ13_bitCount_42 ?_
  refine V_bipush (v := 16) (by decide) eJ13_bitCount_43 ?_
  refine V_iushr eJ13_bitCount_45 ?_
  refine V_iadd eJ13_bitCount_46 ?_
  refine V_istore0 eJ13_bitCount_47 rfl ?_
  refine V_iload0 eJ13_bitCount_48 ?_
  refine V_bipush (v := 63) (by decide) eJ13_bitCount_49 ?_
  refine V_iand eJ13_bitCount_51 ?_
  obtain ⟨rfl, rfl, rfl, rfl⟩ := zrt_ok H
  exact V_ireturn eJ13_bitCount_52 rfl ⟨rfl, rfl⟩
def d_J14_equals_10 (w : Wd) (F : Nat) (s0 : Int32) : M Int32 :=
  zbd (zgd (s0 = 0 ∨ s0 = 1)) fun _ => zrt s0
def o_J14_equals (w : Wd) (F : Nat) (x : Nat) (a1 : Option Nat) : M Int32 :=
  zif ((some x) = a1) (d_J14_equals_10 w F (1 : Int32))
  (d_J14_equals_10 w F (0 : Int32))
theorem b_J14_equals_10 {w : Wd} {F : Nat} {s0 : Int32} {h h1 : Hp} {y : Int32} {c s : Nat} (H : d_J14_equals_10 w F s0 h = some (y, h1, c, s)) : V w mJ14_equals cJ14_equals 0 c s h 10 [none, none] [.int s0] (Ro (oI y) h1) := by
  unfold d_J14_equals_10 at H
  obtain ⟨q, H⟩ := zgd_ok H
  obtain ⟨rfl, rfl, rfl, rfl⟩ := zrt_ok H
  exact V_zreturn eJ14_equals_10 rfl q ⟨rfl, rfl⟩
theorem c_J14_equals {w : Wd} {F : Nat} {x : Nat} {a1 : Option Nat} {h h1 : Hp} {y : Int32} {c s : Nat} (H : o_J14_equals w F x a1 h = some (y, h1, c, s)) : Con w mJ14_equals cJ14_equals 0 c s [.ref x, va_rf a1] h (Ro (oI y) h1) := by
  unfold o_J14_equals at H
  refine Con.ofF (ls := [some (va_rf (some x)), some (va_rf a1)]) (by decide +kernel) (by simp only [zsl_r, zsl_i, zsl_l, zsl_n, zsl_a]; rfl) (by simp only [zar_r, zar_i, zar_l, zar_n, zar_a]; rfl) ?_
  refine V_aload0 eJ14_equals_0 (zrf_rf _) ?_
  refine V_aload1 eJ14_equals_1 (zrf_rf _) ?_
  refine V_if_acmpne eJ14_equals_2 (fun q => ?_) (fun q => ?_)
  · have H := zif_f q H
    refine V_iconst (v := 0) (by decide) eJ14_equals_9 ?_
    exact V_fg2 (b_J14_equals_10 H) (zfg_n (zfg_n zfg_e))
  · have H := zif_t q H
    refine V_iconst (v := 1) (by decide) eJ14_equals_5 ?_
    refine V_goto eJ14_equals_6 ?_
    exact V_fg2 (b_J14_equals_10 H) (zfg_n (zfg_n zfg_e))
def f_J2_size : Nat → Option Nat := fun k => match k with
  | 30 => some 2
  | _ => none
theorem fq_J2_48_tI : FQ RJ2 48 f_J2_size tI := by
  intro k j e
  unfold f_J2_size at e
  split at e
  · cases e; exact ⟨fl_J2_48_30, Or.inl rfl⟩
  · cases e
def o_J2_size (w : Wd) (F : Nat) (x : Nat) : M Int32 :=
  zbd (zgI f_J2_size (some x)) fun v1 =>
  zrt v1
theorem c_J2_size {w : Wd} {F : Nat} {x : Nat} {h h1 : Hp} {y : Int32} {c s : Nat} (H : o_J2_size w F x h = some (y, h1, c, s)) : Con w mJ2_size cJ2_size 0 c s [.ref x] h (Ro (oI y) h1) := by
  unfold o_J2_size at H
  refine Con.ofF (ls := [some (va_rf (some x))]) (by decide +kernel) rfl rfl ?_
  refine V_aload0 eJ2_size_0 (zrf_rf _) ?_
  refine D_gI eJ2_size_1 fq_J2_48_tI H (fun v1 H => ?_)
  obtain ⟨rfl, rfl, rfl, rfl⟩ := zrt_ok H
  exact V_ireturn eJ2_size_4 rfl ⟨rfl, rfl⟩
def f_J2_elementData : Nat → Option Nat := fun k => match k with
  | 30 => some 1
  | _ => none
theorem fq_J2_9_tR : FQ RJ2 9 f_J2_elementData tR := by
  intro k j e
  unfold f_J2_elementData at e
  split at e
  · cases e; exact ⟨fl_J2_9_30, Or.inr ⟨_, rfl⟩⟩
  · cases e
def o_J2_elementData (w : Wd) (F : Nat) (x : Nat) (a1 : Int32) : M (Option Nat) :=
  zbd (zgR f_J2_elementData (some x)) fun v1 =>
  zbd (zaR v1 a1) fun v2 =>
  zrt v2
theorem c_J2_elementData {w : Wd} {F : Nat} {x : Nat} {a1 : Int32} {h h1 : Hp} {y : Option Nat} {c s : Nat} (H : o_J2_elementData w F x a1 h = some (y, h1, c, s)) : Con w mJ2_elementData cJ2_elementData 0 c s [.ref x, .int a1] h (Ro (oR y) h1) := by
  unfold o_J2_elementData at H
  refine Con.ofF (ls := [some (va_rf (some x)), some (.int a1)]) (by decide +kernel) rfl rfl ?_
  refine V_aload0 eJ2_elementData_0 (zrf_rf _) ?_
  refine D_gR eJ2_elementData_1 fq_J2_9_tR H (fun v1 H => ?_)
  refine V_iload1 eJ2_elementData_4 ?_
  refine D_aaload eJ2_elementData_5 H (fun v2 H => ?_)
  obtain ⟨rfl, rfl, rfl, rfl⟩ := zrt_ok H
  exact V_areturn eJ2_elementData_6 rfl (Or.inl ⟨_, rfl⟩) ⟨rfl, rfl⟩
def d_J4_checkIndex_9 (w : Wd) (F : Nat) (a0 : Int32) (a1 : Int32) (a2 : Option Nat) : M Int32 :=
  zno
def o_J4_checkIndex (w : Wd) (F : Nat) (a0 : Int32) (a1 : Int32) (a2 : Option Nat) : M Int32 :=
  zif (a0 < 0) (d_J4_checkIndex_9 w F a0 a1 a2)
  (zif (a0 < a1) (zrt a0)
  (d_J4_checkIndex_9 w F a0 a1 a2))
theorem b_J4_checkIndex_9 {w : Wd} {F : Nat} {a0 : Int32} {a1 : Int32} {a2 : Option Nat} {h h1 : Hp} {y : Int32} {c s : Nat} (H : d_J4_checkIndex_9 w F a0 a1 a2 h = some (y, h1, c, s)) : V w mJ4_checkIndex cJ4_checkIndex 0 c s h 9 [some (.int a0), some (.int a1), some (va_rf a2)] [] (Ro (oI y) h1) := by
  unfold d_J4_checkIndex_9 at H
  refine V_aload2 eJ4_checkIndex_9 (zrf_rf _) ?_
  refine V_iload0 eJ4_checkIndex_10 ?_
  refine V_iload1 eJ4_checkIndex_11 ?_
  exact zno_no H
theorem c_J4_checkIndex {w : Wd} {F : Nat} {a0 : Int32} {a1 : Int32} {a2 : Option Nat} {h h1 : Hp} {y : Int32} {c s : Nat} (H : o_J4_checkIndex w F a0 a1 a2 h = some (y, h1, c, s)) : Con w mJ4_checkIndex cJ4_checkIndex 0 c s [.int a0, .int a1, va_rf a2] h (Ro (oI y) h1) := by
  unfold o_J4_checkIndex at H
  refine Con.ofF (ls := [some (.int a0), some (.int a1), some (va_rf a2)]) (by decide +kernel) (by simp only [zsl_r, zsl_i, zsl_l, zsl_n, zsl_a]; rfl) (by simp only [zar_r, zar_i, zar_l, zar_n, zar_a]; rfl) ?_
  refine V_iload0 eJ4_checkIndex_0 ?_
  refine V_iflt eJ4_checkIndex_1 (fun q => ?_) (fun q => ?_)
  · have H := zif_t q H
    exact V_fg2 (b_J4_checkIndex_9 H) (zfg_k (zfg_k (zfg_k zfg_e)))
  · have H := zif_f q H
    refine V_iload0 eJ4_checkIndex_4 ?_
    refine V_iload1 eJ4_checkIndex_5 ?_
    refine V_if_icmplt eJ4_checkIndex_6 (fun q => ?_) (fun q => ?_)
    · have H := zif_t q H
      refine V_iload0 eJ4_checkIndex_16 ?_
      obtain ⟨rfl, rfl, rfl, rfl⟩ := zrt_ok H
      exact V_ireturn eJ4_checkIndex_17 rfl ⟨rfl, rfl⟩
    · have H := zif_f q H
      exact V_fg2 (b_J4_checkIndex_9 H) (zfg_k (zfg_k (zfg_k zfg_e)))
def o_J3_checkIndex (w : Wd) (F : Nat) (a0 : Int32) (a1 : Int32) : M Int32 :=
  zbd (o_J4_checkIndex w F a0 a1 none) fun v1 =>
  zrt v1
theorem c_J3_checkIndex {w : Wd} {F : Nat} {a0 : Int32} {a1 : Int32} {h h1 : Hp} {y : Int32} {c s : Nat} (H : o_J3_checkIndex w F a0 a1 h = some (y, h1, c, s)) : Con w mJ3_checkIndex cJ3_checkIndex 1 c s [.int a0, .int a1] h (Ro (oI y) h1) := by
  unfold o_J3_checkIndex at H
  refine Con.ofF (ls := [some (.int a0), some (.int a1)]) (by decide +kernel) rfl rfl ?_
  refine V_iload0 eJ3_checkIndex_0 ?_
  refine V_iload1 eJ3_checkIndex_1 ?_
  refine D_null eJ3_checkIndex_2 ?_
  refine D_callI (pc' := 6) (st := []) H (fun v h' c1 s1 e cb sb k => ?_) (fun v1 h c s H => ?_)
  · exact V_invokestatic eJ3_checkIndex_3 lmJ4_checkIndex q167 q168 (c_J4_checkIndex e) (hRet_oI _ _) rfl rfl rfl rfl (kOI k)
  obtain ⟨rfl, rfl, rfl, rfl⟩ := zrt_ok H
  exact V_ireturn eJ3_checkIndex_6 rfl ⟨rfl, rfl⟩
def o_J2_get (w : Wd) (F : Nat) (x : Nat) (a1 : Int32) : M (Option Nat) :=
  zbd (zgI f_J2_size (some x)) fun v1 =>
  zbd (o_J3_checkIndex w F a1 v1) fun v2 =>
  zbd (zv1 30 (some x) (fun a => o_J2_elementData w F a a1)) fun v3 =>
  zrt v3
theorem c_J2_get {w : Wd} {F : Nat} {x : Nat} {a1 : Int32} {h h1 : Hp} {y : Option Nat} {c s : Nat} (H : o_J2_get w F x a1 h = some (y, h1, c, s)) : Con w mJ2_get cJ2_get 2 c s [.ref x, .int a1] h (Ro (oR y) h1) := by
  unfold o_J2_get at H
  refine Con.ofF (ls := [some (va_rf (some x)), some (.int a1)]) (by decide +kernel) rfl rfl ?_
  refine V_iload1 eJ2_get_0 ?_
  refine V_aload0 eJ2_get_1 (zrf_rf _) ?_
  refine D_gI eJ2_get_2 fq_J2_48_tI H (fun v1 H => ?_)
  refine D_callI (pc' := 8) (st := []) H (fun v h' c1 s1 e cb sb k => ?_) (fun v2 h c s H => ?_)
  · exact V_invokestatic eJ2_get_5 lmJ3_checkIndex q164 q165 (c_J3_checkIndex e) (hRet_oI _ _) rfl rfl rfl rfl (kOI k)
  refine V_pop rfl eJ2_get_8 ?_
  refine V_aload0 eJ2_get_9 (zrf_rf _) ?_
  refine V_iload1 eJ2_get_10 ?_
  refine D_callR (pc' := 14) (st := []) H (fun v h' c1 s1 e cb sb k => ?_) (fun v3 h c s H => ?_)
  · obtain ⟨a, hr, ha, hk, e9⟩ := zv1_ok e
    cases hr
    exact V_invokevirtual (k := 30) eJ2_get_11 lmJ2_elementData q170 q171 rfl rfl q172 ha hk (c_J2_elementData e9) (hRet_oR _ _) rfl rfl rfl rfl (kOR k)
  obtain ⟨rfl, rfl, rfl, rfl⟩ := zrt_ok H
  exact V_areturn eJ2_get_14 rfl (Or.inl ⟨_, rfl⟩) ⟨rfl, rfl⟩
def d_J6_max_10 (w : Wd) (F : Nat) (s0 : Int32) : M Int32 :=
  zrt s0
def o_J6_max (w : Wd) (F : Nat) (a0 : Int32) (a1 : Int32) : M Int32 :=
  zif (a0 < a1) (d_J6_max_10 w F a1)
  (d_J6_max_10 w F a0)
theorem b_J6_max_10 {w : Wd} {F : Nat} {s0 : Int32} {h h1 : Hp} {y : Int32} {c s : Nat} (H : d_J6_max_10 w F s0 h = some (y, h1, c, s)) : V w mJ6_max cJ6_max 0 c s h 10 [none, none] [.int s0] (Ro (oI y) h1) := by
  unfold d_J6_max_10 at H
  obtain ⟨rfl, rfl, rfl, rfl⟩ := zrt_ok H
  exact V_ireturn eJ6_max_10 rfl ⟨rfl, rfl⟩
theorem c_J6_max {w : Wd} {F : Nat} {a0 : Int32} {a1 : Int32} {h h1 : Hp} {y : Int32} {c s : Nat} (H : o_J6_max w F a0 a1 h = some (y, h1, c, s)) : Con w mJ6_max cJ6_max 0 c s [.int a0, .int a1] h (Ro (oI y) h1) := by
  unfold o_J6_max at H
  refine Con.ofF (ls := [some (.int a0), some (.int a1)]) (by decide +kernel) rfl rfl ?_
  refine V_iload0 eJ6_max_0 ?_
  refine V_iload1 eJ6_max_1 ?_
  refine V_if_icmplt eJ6_max_2 (fun q => ?_) (fun q => ?_)
  · have H := zif_t q H
    refine V_iload1 eJ6_max_9 ?_
    exact V_fg2 (b_J6_max_10 H) (zfg_n (zfg_n zfg_e))
  · have H := zif_f q H
    refine V_iload0 eJ6_max_5 ?_
    refine V_goto eJ6_max_6 ?_
    exact V_fg2 (b_J6_max_10 H) (zfg_n (zfg_n zfg_e))
def d_J5_newLength_21 (w : Wd) (F : Nat) (a0 : Int32) (a1 : Int32) : M Int32 :=
  zno
def o_J5_newLength (w : Wd) (F : Nat) (a0 : Int32) (a1 : Int32) (a2 : Int32) : M Int32 :=
  zbd (o_J6_max w F a1 a2) fun v1 =>
  zif ((a0 + v1) ≤ (0 : Int32)) (d_J5_newLength_21 w F a0 a1)
  (zif ((2147483639 : Int32) < (a0 + v1)) (d_J5_newLength_21 w F a0 a1)
  (zrt (a0 + v1)))
theorem b_J5_newLength_21 {w : Wd} {F : Nat} {a0 : Int32} {a1 : Int32} {h h1 : Hp} {y : Int32} {c s : Nat} (H : d_J5_newLength_21 w F a0 a1 h = some (y, h1, c, s)) : V w mJ5_newLength cJ5_newLength 1 c s h 21 [some (.int a0), some (.int a1), none, none] [] (Ro (oI y) h1) := by
  unfold d_J5_newLength_21 at H
  refine V_iload0 eJ5_newLength_21 ?_
  refine V_iload1 eJ5_newLength_22 ?_
  exact zno_no H
theorem c_J5_newLength {w : Wd} {F : Nat} {a0 : Int32} {a1 : Int32} {a2 : Int32} {h h1 : Hp} {y : Int32} {c s : Nat} (H : o_J5_newLength w F a0 a1 a2 h = some (y, h1, c, s)) : Con w mJ5_newLength cJ5_newLength 1 c s [.int a0, .int a1, .int a2] h (Ro (oI y) h1) := by
  unfold o_J5_newLength at H
  refine Con.ofF (ls := [some (.int a0), some (.int a1), some (.int a2), none]) (by decide +kernel) rfl rfl ?_
  refine V_iload0 eJ5_newLength_0 ?_
  refine V_iload1 eJ5_newLength_1 ?_
  refine V_iload2 eJ5_newLength_2 ?_
  refine D_callI (pc' := 6) (st := [.int a0]) H (fun v h' c1 s1 e cb sb k => ?_) (fun v1 h c s H => ?_)
  · exact V_invokestatic eJ5_newLength_3 lmJ6_max q218 q219 (c_J6_max e) (hRet_oI _ _) rfl rfl rfl rfl (kOI k)
  refine V_iadd eJ5_newLength_6 ?_
  refine V_istore3 rfl eJ5_newLength_7 rfl ?_
  refine V_iconst (v := 0) (by decide) eJ5_newLength_8 ?_
  refine V_iload3 eJ5_newLength_9 ?_
  refine V_if_icmpge eJ5_newLength_10 (fun q => ?_) (fun q => ?_)
  · have H := zif_t q H
    exact V_fg2 (b_J5_newLength_21 H) (zfg_k (zfg_k (zfg_n (zfg_n zfg_e))))
  · have H := zif_f q H
    refine V_iload3 eJ5_newLength_13 ?_
    refine V_ldc (v := 2147483639) eJ5_newLength_14 q221 ?_
    refine V_if_icmpgt eJ5_newLength_16 (fun q => ?_) (fun q => ?_)
    · have H := zif_t q H
      exact V_fg2 (b_J5_newLength_21 H) (zfg_k (zfg_k (zfg_n (zfg_n zfg_e))))
    · have H := zif_f q H
      refine V_iload3 eJ5_newLength_19 ?_
      obtain ⟨rfl, rfl, rfl, rfl⟩ := zrt_ok H
      exact V_ireturn eJ5_newLength_20 rfl ⟨rfl, rfl⟩
def d_J6_min_10 (w : Wd) (F : Nat) (s0 : Int32) : M Int32 :=
  zrt s0
def o_J6_min (w : Wd) (F : Nat) (a0 : Int32) (a1 : Int32) : M Int32 :=
  zif (a1 < a0) (d_J6_min_10 w F a1)
  (d_J6_min_10 w F a0)
theorem b_J6_min_10 {w : Wd} {F : Nat} {s0 : Int32} {h h1 : Hp} {y : Int32} {c s : Nat} (H : d_J6_min_10 w F s0 h = some (y, h1, c, s)) : V w mJ6_min cJ6_min 0 c s h 10 [none, none] [.int s0] (Ro (oI y) h1) := by
  unfold d_J6_min_10 at H
  obtain ⟨rfl, rfl, rfl, rfl⟩ := zrt_ok H
  exact V_ireturn eJ6_min_10 rfl ⟨rfl, rfl⟩
theorem c_J6_min {w : Wd} {F : Nat} {a0 : Int32} {a1 : Int32} {h h1 : Hp} {y : Int32} {c s : Nat} (H : o_J6_min w F a0 a1 h = some (y, h1, c, s)) : Con w mJ6_min cJ6_min 0 c s [.int a0, .int a1] h (Ro (oI y) h1) := by
  unfold o_J6_min at H
  refine Con.ofF (ls := [some (.int a0), some (.int a1)]) (by decide +kernel) rfl rfl ?_
  refine V_iload0 eJ6_min_0 ?_
  refine V_iload1 eJ6_min_1 ?_
  refine V_if_icmpgt eJ6_min_2 (fun q => ?_) (fun q => ?_)
  · have H := zif_t q H
    refine V_iload1 eJ6_min_9 ?_
    exact V_fg2 (b_J6_min_10 H) (zfg_n (zfg_n zfg_e))
  · have H := zif_f q H
    refine V_iload0 eJ6_min_5 ?_
    refine V_goto eJ6_min_6 ?_
    exact V_fg2 (b_J6_min_10 H) (zfg_n (zfg_n zfg_e))
def d_J7_copyOf_2_24 (w : Wd) (F : Nat) (a0 : Option Nat) (a1 : Int32) (s0 : Option Nat) : M (Option Nat) :=
  zbd (zal a0) fun v2 =>
  zbd (o_J6_min w F v2 a1) fun v3 =>
  zbd (zcpy 6 a0 (0 : Int32) s0 (0 : Int32) v3) fun _ =>
  zrt s0
def o_J7_copyOf_2 (w : Wd) (F : Nat) (a0 : Option Nat) (a1 : Int32) (a2 : Option Nat) : M (Option Nat) :=
  zif (a2 = (some (w.K 4))) (zbd (znG 400 a0 a1) fun n1 =>
  d_J7_copyOf_2_24 w F a0 a1 n1)
  (zno)
theorem b_J7_copyOf_2_24 {w : Wd} {F : Nat} {a0 : Option Nat} {a1 : Int32} {s0 : Option Nat} {h h1 : Hp} {y : Option Nat} {c s : Nat} (H : d_J7_copyOf_2_24 w F a0 a1 s0 h = some (y, h1, c, s)) : V w mJ7_copyOf_2 cJ7_copyOf_2 1 c s h 24 [some (va_rf a0), some (.int a1), none, none] [va_rf s0] (Ro (oR y) h1) := by
  unfold d_J7_copyOf_2_24 at H
  refine V_astore3 rfl eJ7_copyOf_2_24 rfl (zrf_rf _) ?_
  refine V_aload0 eJ7_copyOf_2_25 (zrf_rf _) ?_
  refine V_iconst (v := 0) (by decide) eJ7_copyOf_2_26 ?_
  refine V_aload3 eJ7_copyOf_2_27 (zrf_rf _) ?_
  refine V_iconst (v := 0) (by decide) eJ7_copyOf_2_28 ?_
  refine V_aload0 eJ7_copyOf_2_29 (zrf_rf _) ?_
  refine D_arraylength eJ7_copyOf_2_30 H (fun v2 H => ?_)
  refine V_iload1 eJ7_copyOf_2_31 ?_
  refine D_callI (pc' := 35) (st := [.int (0 : Int32), va_rf s0, .int (0 : Int32), va_rf a0]) H (fun v h' c1 s1 e cb sb k => ?_) (fun v3 h c s H => ?_)
  · exact V_invokestatic eJ7_copyOf_2_32 lmJ6_min q264 q265 (c_J6_min e) (hRet_oI _ _) rfl rfl rfl (by simp only [List.map_cons, List.map_nil, zcr]; rfl) (kOI k)
  refine D_acopy (cT := 6) eJ7_copyOf_2_35 q267 q269 q268 q110 rfl rfl H (fun h H => ?_)
  refine V_aload3 eJ7_copyOf_2_38 (zrf_rf _) ?_
  obtain ⟨rfl, rfl, rfl, rfl⟩ := zrt_ok H
  exact V_areturn eJ7_copyOf_2_39 rfl (Or.inr ⟨_, rfl⟩) ⟨rfl, rfl⟩
theorem c_J7_copyOf_2 {w : Wd} {F : Nat} {a0 : Option Nat} {a1 : Int32} {a2 : Option Nat} {h h1 : Hp} {y : Option Nat} {c s : Nat} (H : o_J7_copyOf_2 w F a0 a1 a2 h = some (y, h1, c, s)) : Con w mJ7_copyOf_2 cJ7_copyOf_2 1 c s [va_rf a0, .int a1, va_rf a2] h (Ro (oR y) h1) := by
  unfold o_J7_copyOf_2 at H
  refine Con.ofF (ls := [some (va_rf a0), some (.int a1), some (va_rf a2), none]) (by decide +kernel) (by simp only [zsl_r, zsl_i, zsl_l, zsl_n, zsl_a]; rfl) (by simp only [zar_r, zar_i, zar_l, zar_n, zar_a]; rfl) ?_
  refine V_aload2 eJ7_copyOf_2_0 (zrf_rf _) ?_
  refine V_ldcM (i := 4) eJ7_copyOf_2_1 q261 (Or.inr ⟨rfl, rfl⟩) ?_
  refine V_if_acmpne eJ7_copyOf_2_3 (fun q => ?_) (fun q => ?_)
  · have H := zif_f q H
    refine V_aload2 eJ7_copyOf_2_13 (zrf_rf _) ?_
    exact zno_no H
  · have H := zif_t q H
    refine V_iload1 eJ7_copyOf_2_6 ?_
    refine D_anewarrayG (κ := 400) (cT := 6) eJ7_copyOf_2_7 rfl rfl (Or.inl ⟨_, rfl, q263⟩) q262 H (fun n1 h c s H => ?_)
    refine V_goto eJ7_copyOf_2_10 ?_
    exact V_fg2 (b_J7_copyOf_2_24 H) (zfg_k (zfg_k (zfg_n (zfg_n zfg_e))))
def o_J7_copyOf (w : Wd) (F : Nat) (a0 : Option Nat) (a1 : Int32) : M (Option Nat) :=
  zbd (zgc6 w a0) fun v1 =>
  zbd (o_J7_copyOf_2 w F a0 a1 v1) fun v2 =>
  zrt v2
theorem c_J7_copyOf {w : Wd} {F : Nat} {a0 : Option Nat} {a1 : Int32} {h h1 : Hp} {y : Option Nat} {c s : Nat} (H : o_J7_copyOf w F a0 a1 h = some (y, h1, c, s)) : Con w mJ7_copyOf cJ7_copyOf 2 c s [va_rf a0, .int a1] h (Ro (oR y) h1) := by
  unfold o_J7_copyOf at H
  refine Con.ofF (ls := [some (va_rf a0), some (.int a1)]) (by decide +kernel) (by simp only [zsl_r, zsl_i, zsl_l, zsl_n, zsl_a]; rfl) (by simp only [zar_r, zar_i, zar_l, zar_n, zar_a]; rfl) ?_
  refine V_aload0 eJ7_copyOf_0 (zrf_rf _) ?_
  refine V_iload1 eJ7_copyOf_1 ?_
  refine V_aload0 eJ7_copyOf_2 (zrf_rf _) ?_
  refine D_getCA eJ7_copyOf_3 q228 q1664 q2461 q229 q257 rfl (by simp only [List.map_cons, List.map_nil, zcr]; rfl) H (fun v1 H => ?_)
  refine D_callR (pc' := 9) (st := []) H (fun v h' c1 s1 e cb sb k => ?_) (fun v2 h c s H => ?_)
  · exact V_invokestatic eJ7_copyOf_6 lmJ7_copyOf_2 q258 q259 (c_J7_copyOf_2 e) (hRet_oR _ _) rfl rfl rfl rfl (kOR k)
  obtain ⟨rfl, rfl, rfl, rfl⟩ := zrt_ok H
  exact V_areturn eJ7_copyOf_9 rfl (Or.inr ⟨_, rfl⟩) ⟨rfl, rfl⟩
theorem fn_J2_grow_2_9 : FN mJ2_grow_2 9 f_J2_elementData := by
  intro k j e
  unfold f_J2_elementData at e
  split at e
  · cases e; exact Or.inl rfl
  · cases e
def d_J2_grow_2_20 (w : Wd) (F : Nat) (x : Nat) (a1 : Int32) (a2 : Int32) : M (Option Nat) :=
  zbd (o_J5_newLength w F a2 (a1 - a2) (a2 >>> ((1 : Int32) &&& 31))) fun v3 =>
  zbd (zgR f_J2_elementData (some x)) fun v4 =>
  zbd (o_J7_copyOf w F v4 v3) fun v5 =>
  zbd (zpR f_J2_elementData (some x) v5) fun _ =>
  zrt v5
def o_J2_grow_2 (w : Wd) (F : Nat) (x : Nat) (a1 : Int32) : M (Option Nat) :=
  zbd (zgR f_J2_elementData (some x)) fun v1 =>
  zbd (zal v1) fun v2 =>
  zif (0 < v2) (d_J2_grow_2_20 w F x a1 v2)
  (zbd (zgR f_J2_elementData (some x)) fun v3 =>
  zif (v3 = (some (w.K 1))) (zbd (o_J6_max w F (10 : Int32) a1) fun v4 =>
  zbd (znG 400 (some x) v4) fun n5 =>
  zbd (zpR f_J2_elementData (some x) n5) fun _ =>
  zrt n5)
  (d_J2_grow_2_20 w F x a1 v2))
theorem b_J2_grow_2_20 {w : Wd} {F : Nat} {x : Nat} {a1 : Int32} {a2 : Int32} {h h1 : Hp} {y : Option Nat} {c s : Nat} (H : d_J2_grow_2_20 w F x a1 a2 h = some (y, h1, c, s)) : V w mJ2_grow_2 cJ2_grow_2 3 c s h 20 [some (va_rf (some x)), some (.int a1), some (.int a2), none] [] (Ro (oR y) h1) := by
  unfold d_J2_grow_2_20 at H
  refine V_iload2 eJ2_grow_2_20 ?_
  refine V_iload1 eJ2_grow_2_21 ?_
  refine V_iload2 eJ2_grow_2_22 ?_
  refine V_isub eJ2_grow_2_23 ?_
  refine V_iload2 eJ2_grow_2_24 ?_
  refine V_iconst (v := 1) (by decide) eJ2_grow_2_25 ?_
  refine V_ishr eJ2_grow_2_26 ?_
  refine D_callI (pc' := 30) (st := []) H (fun v h' c1 s1 e cb sb k => ?_) (fun v3 h c s H => ?_)
  · exact V_invokestatic eJ2_grow_2_27 lmJ5_newLength q215 q216 (c_J5_newLength e) (hRet_oI _ _) rfl rfl rfl rfl (kOI k)
  refine V_istore3 rfl eJ2_grow_2_30 rfl ?_
  refine V_aload0 eJ2_grow_2_31 (zrf_rf _) ?_
  refine V_aload0 eJ2_grow_2_32 (zrf_rf _) ?_
  refine D_gR eJ2_grow_2_33 fq_J2_9_tR H (fun v4 H => ?_)
  refine V_iload3 eJ2_grow_2_36 ?_
  refine D_callR (pc' := 40) (st := [va_rf (some x)]) H (fun v h' c1 s1 e cb sb k => ?_) (fun v5 h c s H => ?_)
  · exact V_invokestatic eJ2_grow_2_37 lmJ7_copyOf q225 q226 (c_J7_copyOf e) (hRet_oR _ _) rfl rfl rfl (by simp only [List.map_cons, List.map_nil, zcr]; rfl) (kOR k)
  refine V_dup_x1 (zcr _) (zcr _) eJ2_grow_2_40 ?_
  refine D_pR eJ2_grow_2_41 fq_J2_9_tR fn_J2_grow_2_9 H (fun h H => ?_)
  obtain ⟨rfl, rfl, rfl, rfl⟩ := zrt_ok H
  exact V_areturn eJ2_grow_2_44 rfl (Or.inr ⟨_, rfl⟩) ⟨rfl, rfl⟩
theorem c_J2_grow_2 {w : Wd} {F : Nat} {x : Nat} {a1 : Int32} {h h1 : Hp} {y : Option Nat} {c s : Nat} (H : o_J2_grow_2 w F x a1 h = some (y, h1, c, s)) : Con w mJ2_grow_2 cJ2_grow_2 3 c s [.ref x, .int a1] h (Ro (oR y) h1) := by
  unfold o_J2_grow_2 at H
  refine Con.ofF (ls := [some (va_rf (some x)), some (.int a1), none, none]) (by decide +kernel) rfl rfl ?_
  refine V_aload0 eJ2_grow_2_0 (zrf_rf _) ?_
  refine D_gR eJ2_grow_2_1 fq_J2_9_tR H (fun v1 H => ?_)
  refine D_arraylength eJ2_grow_2_4 H (fun v2 H => ?_)
  refine V_istore2 rfl eJ2_grow_2_5 rfl ?_
  refine V_iload2 eJ2_grow_2_6 ?_
  refine V_ifgt eJ2_grow_2_7 (fun q => ?_) (fun q => ?_)
  · have H := zif_t q H
    exact V_fg2 (b_J2_grow_2_20 H) (zfg_k (zfg_k (zfg_k (zfg_n zfg_e))))
  · have H := zif_f q H
    refine V_aload0 eJ2_grow_2_10 (zrf_rf _) ?_
    refine D_gR eJ2_grow_2_11 fq_J2_9_tR H (fun v3 H => ?_)
    refine V_getstatic (v := va_rf (some (w.K 1))) eJ2_grow_2_14 List.mem_cons_self q213 ?_
    refine V_if_acmpeq eJ2_grow_2_17 (fun q => ?_) (fun q => ?_)
    · have H := zif_t q H
      refine V_aload0 eJ2_grow_2_45 (zrf_rf _) ?_
      refine V_bipush (v := 10) (by decide) eJ2_grow_2_46 ?_
      refine V_iload1 eJ2_grow_2_48 ?_
      refine D_callI (pc' := 52) (st := [va_rf (some x)]) H (fun v h' c1 s1 e cb sb k => ?_) (fun v4 h c s H => ?_)
      · exact V_invokestatic eJ2_grow_2_49 lmJ6_max q270 q219 (c_J6_max e) (hRet_oI _ _) rfl rfl rfl (by simp only [List.map_cons, List.map_nil, zcr]; rfl) (kOI k)
      refine D_anewarrayG (κ := 400) (cT := 6) eJ2_grow_2_52 rfl rfl (Or.inl ⟨_, rfl, q271⟩) q262 H (fun n5 h c s H => ?_)
      refine V_dup_x1 (zcr _) (zcr _) eJ2_grow_2_55 ?_
      refine D_pR eJ2_grow_2_56 fq_J2_9_tR fn_J2_grow_2_9 H (fun h H => ?_)
      obtain ⟨rfl, rfl, rfl, rfl⟩ := zrt_ok H
      exact V_areturn eJ2_grow_2_59 rfl (Or.inr ⟨_, rfl⟩) ⟨rfl, rfl⟩
    · have H := zif_f q H
      exact V_fg2 (b_J2_grow_2_20 H) (zfg_k (zfg_k (zfg_k (zfg_n zfg_e))))
def o_J2_grow (w : Wd) (F : Nat) (x : Nat) : M (Option Nat) :=
  zbd (zgI f_J2_size (some x)) fun v1 =>
  zbd (zv1 30 (some x) (fun a => o_J2_grow_2 w F a (v1 + (1 : Int32)))) fun v2 =>
  zrt v2
theorem c_J2_grow {w : Wd} {F : Nat} {x : Nat} {h h1 : Hp} {y : Option Nat} {c s : Nat} (H : o_J2_grow w F x h = some (y, h1, c, s)) : Con w mJ2_grow cJ2_grow 4 c s [.ref x] h (Ro (oR y) h1) := by
  unfold o_J2_grow at H
  refine Con.ofF (ls := [some (va_rf (some x))]) (by decide +kernel) rfl rfl ?_
  refine V_aload0 eJ2_grow_0 (zrf_rf _) ?_
  refine V_aload0 eJ2_grow_1 (zrf_rf _) ?_
  refine D_gI eJ2_grow_2 fq_J2_48_tI H (fun v1 H => ?_)
  refine V_iconst (v := 1) (by decide) eJ2_grow_5 ?_
  refine V_iadd eJ2_grow_6 ?_
  refine D_callR (pc' := 10) (st := []) H (fun v h' c1 s1 e cb sb k => ?_) (fun v2 h c s H => ?_)
  · obtain ⟨a, hr, ha, hk, e9⟩ := zv1_ok e
    cases hr
    exact V_invokevirtual (k := 30) eJ2_grow_7 lmJ2_grow_2 q209 q211 rfl rfl qs2 ha hk (c_J2_grow_2 e9) (hRet_oR _ _) rfl rfl rfl rfl (kOR k)
  obtain ⟨rfl, rfl, rfl, rfl⟩ := zrt_ok H
  exact V_areturn eJ2_grow_10 rfl (Or.inr ⟨_, rfl⟩) ⟨rfl, rfl⟩
theorem fq_J2_48_tN : FQ RJ2 48 f_J2_size tN := by
  intro k j e
  unfold f_J2_size at e
  split at e
  · cases e; exact ⟨fl_J2_48_30, rfl⟩
  · cases e
theorem fn_J2_add_2_48 : FN mJ2_add_2 48 f_J2_size := by
  intro k j e
  unfold f_J2_size at e
  split at e
  · cases e; exact Or.inl rfl
  · cases e
def d_J2_add_2_11 (w : Wd) (F : Nat) (x : Nat) (a1 : Option Nat) (a2 : Option Nat) (a3 : Int32) : M Unit :=
  zbd (zsR 6 a2 a3 a1) fun _ =>
  zbd (zpI f_J2_size (some x) (a3 + (1 : Int32))) fun _ =>
  zrt ()
def o_J2_add_2 (w : Wd) (F : Nat) (x : Nat) (a1 : Option Nat) (a2 : Option Nat) (a3 : Int32) : M Unit :=
  zbd (zal a2) fun v1 =>
  zif (a3 = v1) (zbd (zv1 30 (some x) (fun a => o_J2_grow w F a)) fun v2 =>
  d_J2_add_2_11 w F x a1 v2 a3)
  (d_J2_add_2_11 w F x a1 a2 a3)
theorem b_J2_add_2_11 {w : Wd} {F : Nat} {x : Nat} {a1 : Option Nat} {a2 : Option Nat} {a3 : Int32} {h h1 : Hp} {y : Unit} {c s : Nat} (H : d_J2_add_2_11 w F x a1 a2 a3 h = some (y, h1, c, s)) : V w mJ2_add_2 cJ2_add_2 5 c s h 11 [some (va_rf (some x)), some (va_rf a1), some (va_rf a2), some (.int a3)] [] (Ro (oU y) h1) := by
  unfold d_J2_add_2_11 at H
  refine V_aload2 eJ2_add_2_11 (zrf_rf _) ?_
  refine V_iload3 eJ2_add_2_12 ?_
  refine V_aload1 eJ2_add_2_13 (zrf_rf _) ?_
  refine D_aastore eJ2_add_2_14 H (fun h H => ?_)
  refine V_aload0 eJ2_add_2_15 (zrf_rf _) ?_
  refine V_iload3 eJ2_add_2_16 ?_
  refine V_iconst (v := 1) (by decide) eJ2_add_2_17 ?_
  refine V_iadd eJ2_add_2_18 ?_
  refine D_pI eJ2_add_2_19 fq_J2_48_tN fn_J2_add_2_48 H (fun h H => ?_)
  obtain ⟨rfl, rfl, rfl, rfl⟩ := zrt_ok H
  exact V_return (x := ()) eJ2_add_2_22 rfl ⟨rfl, rfl⟩
theorem c_J2_add_2 {w : Wd} {F : Nat} {x : Nat} {a1 : Option Nat} {a2 : Option Nat} {a3 : Int32} {h h1 : Hp} {y : Unit} {c s : Nat} (H : o_J2_add_2 w F x a1 a2 a3 h = some (y, h1, c, s)) : Con w mJ2_add_2 cJ2_add_2 5 c s [.ref x, va_rf a1, va_rf a2, .int a3] h (Ro (oU y) h1) := by
  unfold o_J2_add_2 at H
  refine Con.ofF (ls := [some (va_rf (some x)), some (va_rf a1), some (va_rf a2), some (.int a3)]) (by decide +kernel) (by simp only [zsl_r, zsl_i, zsl_l, zsl_n, zsl_a]; rfl) (by simp only [zar_r, zar_i, zar_l, zar_n, zar_a]; rfl) ?_
  refine V_iload3 eJ2_add_2_0 ?_
  refine V_aload2 eJ2_add_2_1 (zrf_rf _) ?_
  refine D_arraylength eJ2_add_2_2 H (fun v1 H => ?_)
  refine V_if_icmpne eJ2_add_2_3 (fun q => ?_) (fun q => ?_)
  · have H := zif_f q H
    exact V_fg2 (b_J2_add_2_11 H) (zfg_k (zfg_k (zfg_k (zfg_k zfg_e))))
  · have H := zif_t q H
    refine V_aload0 eJ2_add_2_6 (zrf_rf _) ?_
    refine D_callR (pc' := 10) (st := []) H (fun v h' c1 s1 e cb sb k => ?_) (fun v2 h c s H => ?_)
    · obtain ⟨a, hr, ha, hk, e9⟩ := zv1_ok e
      cases hr
      exact V_invokevirtual (k := 30) eJ2_add_2_7 lmJ2_grow q205 q207 rfl rfl qs1 ha hk (c_J2_grow e9) (hRet_oR _ _) rfl rfl rfl rfl (kOR k)
    refine V_astore2 (znl_rf _) eJ2_add_2_10 rfl (zrf_rf _) ?_
    exact V_fg2 (b_J2_add_2_11 H) (zfg_k (zfg_k (zfg_k (zfg_k zfg_e))))
def f_J2_modCount : Nat → Option Nat := fun k => match k with
  | 30 => some 0
  | _ => none
theorem fq_J2_63_tI : FQ RJ2 63 f_J2_modCount tI := by
  intro k j e
  unfold f_J2_modCount at e
  split at e
  · cases e; exact ⟨fl_J2_63_30, Or.inl rfl⟩
  · cases e
theorem fq_J2_63_tN : FQ RJ2 63 f_J2_modCount tN := by
  intro k j e
  unfold f_J2_modCount at e
  split at e
  · cases e; exact ⟨fl_J2_63_30, rfl⟩
  · cases e
theorem fn_J2_add_63 : FN mJ2_add 63 f_J2_modCount := by
  intro k j e
  unfold f_J2_modCount at e
  split at e
  · cases e; exact Or.inl rfl
  · cases e
def o_J2_add (w : Wd) (F : Nat) (x : Nat) (a1 : Option Nat) : M Int32 :=
  zbd (zgI f_J2_modCount (some x)) fun v1 =>
  zbd (zpI f_J2_modCount (some x) (v1 + (1 : Int32))) fun _ =>
  zbd (zgR f_J2_elementData (some x)) fun v2 =>
  zbd (zgI f_J2_size (some x)) fun v3 =>
  zbd (zv1 30 (some x) (fun a => o_J2_add_2 w F a a1 v2 v3)) fun _ =>
  zbd (zgd ((1 : Int32) = 0 ∨ (1 : Int32) = 1)) fun _ => zrt (1 : Int32)
theorem c_J2_add {w : Wd} {F : Nat} {x : Nat} {a1 : Option Nat} {h h1 : Hp} {y : Int32} {c s : Nat} (H : o_J2_add w F x a1 h = some (y, h1, c, s)) : Con w mJ2_add cJ2_add 6 c s [.ref x, va_rf a1] h (Ro (oI y) h1) := by
  unfold o_J2_add at H
  refine Con.ofF (ls := [some (va_rf (some x)), some (va_rf a1)]) (by decide +kernel) (by simp only [zsl_r, zsl_i, zsl_l, zsl_n, zsl_a]; rfl) (by simp only [zar_r, zar_i, zar_l, zar_n, zar_a]; rfl) ?_
  refine V_aload0 eJ2_add_0 (zrf_rf _) ?_
  refine V_dup (zcr _) eJ2_add_1 ?_
  refine D_gI eJ2_add_2 fq_J2_63_tI H (fun v1 H => ?_)
  refine V_iconst (v := 1) (by decide) eJ2_add_5 ?_
  refine V_iadd eJ2_add_6 ?_
  refine D_pI eJ2_add_7 fq_J2_63_tN fn_J2_add_63 H (fun h H => ?_)
  refine V_aload0 eJ2_add_10 (zrf_rf _) ?_
  refine V_aload1 eJ2_add_11 (zrf_rf _) ?_
  refine V_aload0 eJ2_add_12 (zrf_rf _) ?_
  refine D_gR eJ2_add_13 fq_J2_9_tR H (fun v2 H => ?_)
  refine V_aload0 eJ2_add_16 (zrf_rf _) ?_
  refine D_gI eJ2_add_17 fq_J2_48_tI H (fun v3 H => ?_)
  refine D_callU (pc' := 23) (st := []) H (fun v h' c1 s1 e cb sb k => ?_) (fun v4 h c s H => ?_)
  · obtain ⟨a, hr, ha, hk, e9⟩ := zv1_ok e
    cases hr
    exact V_invokevirtual (k := 30) eJ2_add_20 lmJ2_add_2 q200 q202 rfl rfl qs0 ha hk (c_J2_add_2 e9) (hRet_oU _ _) rfl rfl rfl rfl (kOU k)
  refine V_iconst (v := 1) (by decide) eJ2_add_23 ?_
  obtain ⟨q, H⟩ := zgd_ok H
  obtain ⟨rfl, rfl, rfl, rfl⟩ := zrt_ok H
  exact V_zreturn eJ2_add_24 rfl q ⟨rfl, rfl⟩
theorem fn_J2_init_9 : FN mJ2_init 9 f_J2_elementData := by
  intro k j e
  unfold f_J2_elementData at e
  split at e
  · cases e; exact Or.inl rfl
  · cases e
def o_J2_init (w : Wd) (F : Nat) (x : Nat) : M Unit :=
  zbd (o_J1_init w F x) fun _ =>
  zbd (zpR f_J2_elementData (some x) (some (w.K 1))) fun _ =>
  zrt ()
theorem c_J2_init {w : Wd} {F : Nat} {x : Nat} {h h1 : Hp} {y : Unit} {c s : Nat} (H : o_J2_init w F x h = some (y, h1, c, s)) : Con w mJ2_init cJ2_init 3 c s [.ref x] h (Ro (oU y) h1) := by
  unfold o_J2_init at H
  refine Con.ofF (ls := [some (va_rf (some x))]) (by decide +kernel) rfl rfl ?_
  refine V_aload0 eJ2_init_0 (zrf_rf _) ?_
  refine D_callU (pc' := 4) (st := []) H (fun v h' c1 s1 e cb sb k => ?_) (fun v1 h c s H => ?_)
  · exact V_invokeinit eJ2_init_1 lmJ1_init rfl rfl q310 q311 (c_J1_init e) (hRet_oU _ _) rfl rfl rfl rfl (kOU k)
  refine V_aload0 eJ2_init_4 (zrf_rf _) ?_
  refine V_getstatic (v := va_rf (some (w.K 1))) eJ2_init_5 List.mem_cons_self q213 ?_
  refine D_pR eJ2_init_8 fq_J2_9_tR fn_J2_init_9 H (fun h H => ?_)
  obtain ⟨rfl, rfl, rfl, rfl⟩ := zrt_ok H
  exact V_return (x := ()) eJ2_init_11 rfl ⟨rfl, rfl⟩
theorem fn_J2_fastRemove_63 : FN mJ2_fastRemove 63 f_J2_modCount := by
  intro k j e
  unfold f_J2_modCount at e
  split at e
  · cases e; exact Or.inl rfl
  · cases e
theorem fn_J2_fastRemove_48 : FN mJ2_fastRemove 48 f_J2_size := by
  intro k j e
  unfold f_J2_size at e
  split at e
  · cases e; exact Or.inl rfl
  · cases e
def d_J2_fastRemove_34 (w : Wd) (F : Nat) (x : Nat) (a1 : Option Nat) (a3 : Int32) : M Unit :=
  zbd (zpI f_J2_size (some x) a3) fun _ =>
  zbd (zsR 6 a1 a3 none) fun _ =>
  zrt ()
def o_J2_fastRemove (w : Wd) (F : Nat) (x : Nat) (a1 : Option Nat) (a2 : Int32) : M Unit :=
  zbd (zgI f_J2_modCount (some x)) fun v1 =>
  zbd (zpI f_J2_modCount (some x) (v1 + (1 : Int32))) fun _ =>
  zbd (zgI f_J2_size (some x)) fun v2 =>
  zif ((v2 - (1 : Int32)) ≤ a2) (d_J2_fastRemove_34 w F x a1 (v2 - (1 : Int32)))
  (zbd (zcpy 6 a1 (a2 + (1 : Int32)) a1 a2 ((v2 - (1 : Int32)) - a2)) fun _ =>
  d_J2_fastRemove_34 w F x a1 (v2 - (1 : Int32)))
theorem b_J2_fastRemove_34 {w : Wd} {F : Nat} {x : Nat} {a1 : Option Nat} {a3 : Int32} {h h1 : Hp} {y : Unit} {c s : Nat} (H : d_J2_fastRemove_34 w F x a1 a3 h = some (y, h1, c, s)) : V w mJ2_fastRemove cJ2_fastRemove 1 c s h 34 [some (va_rf (some x)), some (va_rf a1), none, some (.int a3)] [] (Ro (oU y) h1) := by
  unfold d_J2_fastRemove_34 at H
  refine V_aload1 eJ2_fastRemove_34 (zrf_rf _) ?_
  refine V_aload0 eJ2_fastRemove_35 (zrf_rf _) ?_
  refine V_iload3 eJ2_fastRemove_36 ?_
  refine V_dup_x1 rfl (zcr _) eJ2_fastRemove_37 ?_
  refine D_pI eJ2_fastRemove_38 fq_J2_48_tN fn_J2_fastRemove_48 H (fun h H => ?_)
  refine D_null eJ2_fastRemove_41 ?_
  refine D_aastore eJ2_fastRemove_42 H (fun h H => ?_)
  obtain ⟨rfl, rfl, rfl, rfl⟩ := zrt_ok H
  exact V_return (x := ()) eJ2_fastRemove_43 rfl ⟨rfl, rfl⟩
theorem c_J2_fastRemove {w : Wd} {F : Nat} {x : Nat} {a1 : Option Nat} {a2 : Int32} {h h1 : Hp} {y : Unit} {c s : Nat} (H : o_J2_fastRemove w F x a1 a2 h = some (y, h1, c, s)) : Con w mJ2_fastRemove cJ2_fastRemove 1 c s [.ref x, va_rf a1, .int a2] h (Ro (oU y) h1) := by
  unfold o_J2_fastRemove at H
  refine Con.ofF (ls := [some (va_rf (some x)), some (va_rf a1), some (.int a2), none]) (by decide +kernel) (by simp only [zsl_r, zsl_i, zsl_l, zsl_n, zsl_a]; rfl) (by simp only [zar_r, zar_i, zar_l, zar_n, zar_a]; rfl) ?_
  refine V_aload0 eJ2_fastRemove_0 (zrf_rf _) ?_
  refine V_dup (zcr _) eJ2_fastRemove_1 ?_
  refine D_gI eJ2_fastRemove_2 fq_J2_63_tI H (fun v1 H => ?_)
  refine V_iconst (v := 1) (by decide) eJ2_fastRemove_5 ?_
  refine V_iadd eJ2_fastRemove_6 ?_
  refine D_pI eJ2_fastRemove_7 fq_J2_63_tN fn_J2_fastRemove_63 H (fun h H => ?_)
  refine V_aload0 eJ2_fastRemove_10 (zrf_rf _) ?_
  refine D_gI eJ2_fastRemove_11 fq_J2_48_tI H (fun v2 H => ?_)
  refine V_iconst (v := 1) (by decide) eJ2_fastRemove_14 ?_
  refine V_isub eJ2_fastRemove_15 ?_
  refine V_dup rfl eJ2_fastRemove_16 ?_
  refine V_istore3 rfl eJ2_fastRemove_17 rfl ?_
  refine V_iload2 eJ2_fastRemove_18 ?_
  refine V_if_icmple eJ2_fastRemove_19 (fun q => ?_) (fun q => ?_)
  · have H := zif_t q H
    exact V_fg2 (b_J2_fastRemove_34 H) (zfg_k (zfg_k (zfg_n (zfg_k zfg_e))))
  · have H := zif_f q H
    refine V_aload1 eJ2_fastRemove_22 (zrf_rf _) ?_
    refine V_iload2 eJ2_fastRemove_23 ?_
    refine V_iconst (v := 1) (by decide) eJ2_fastRemove_24 ?_
    refine V_iadd eJ2_fastRemove_25 ?_
    refine V_aload1 eJ2_fastRemove_26 (zrf_rf _) ?_
    refine V_iload2 eJ2_fastRemove_27 ?_
    refine V_iload3 eJ2_fastRemove_28 ?_
    refine V_iload2 eJ2_fastRemove_29 ?_
    refine V_isub eJ2_fastRemove_30 ?_
    refine D_acopy (cT := 6) eJ2_fastRemove_31 q1429 q269 q268 q110 rfl rfl H (fun h H => ?_)
    exact V_fg2 (b_J2_fastRemove_34 H) (zfg_k (zfg_k (zfg_n (zfg_k zfg_e))))
def d_J2_remove_65 (w : Wd) (F : Nat) : M Int32 :=
  zbd (zgd ((0 : Int32) = 0 ∨ (0 : Int32) = 1)) fun _ => zrt (0 : Int32)
def d_J2_remove_67 (w : Wd) (F : Nat) (x : Nat) (a2 : Option Nat) (a4 : Int32) : M Int32 :=
  zbd (zv1 30 (some x) (fun a => o_J2_fastRemove w F a a2 a4)) fun _ =>
  zbd (zgd ((1 : Int32) = 0 ∨ (1 : Int32) = 1)) fun _ => zrt (1 : Int32)
def B_J2_remove_39 (w : Wd) (F : Nat) (k39 : Int32 → M Int32) (x : Nat) (a1 : Option Nat) (a2 : Option Nat) (a3 : Int32) (a4 : Int32) : M Int32 :=
  zif (a3 ≤ a4) (d_J2_remove_65 w F)
  (zbd (zaR a2 a4) fun v3 =>
  zbd (zv1 20 a1 (fun a => zrt (if v3 = some a then (1 : Int32) else 0))) fun v4 =>
  zif (v4 = 0) (k39 (a4 + (1 : Int32)))
  (d_J2_remove_67 w F x a2 a4))
def d_J2_remove_39 (w : Wd) (F : Nat) (x : Nat) (a1 : Option Nat) (a2 : Option Nat) (a3 : Int32) : Nat → Int32 → M Int32
  | 0, _ => zno
  | n + 1, a4 => B_J2_remove_39 w F (d_J2_remove_39 w F x a1 a2 a3 n) x a1 a2 a3 a4
def B_J2_remove_17 (w : Wd) (F : Nat) (k17 : Int32 → M Int32) (x : Nat) (a2 : Option Nat) (a3 : Int32) (a4 : Int32) : M Int32 :=
  zif (a3 ≤ a4) (d_J2_remove_65 w F)
  (zbd (zaR a2 a4) fun v3 =>
  zif (v3 = none) (d_J2_remove_67 w F x a2 a4)
  (k17 (a4 + (1 : Int32))))
def d_J2_remove_17 (w : Wd) (F : Nat) (x : Nat) (a2 : Option Nat) (a3 : Int32) : Nat → Int32 → M Int32
  | 0, _ => zno
  | n + 1, a4 => B_J2_remove_17 w F (d_J2_remove_17 w F x a2 a3 n) x a2 a3 a4
def o_J2_remove (w : Wd) (F : Nat) (x : Nat) (a1 : Option Nat) : M Int32 :=
  zbd (zgR f_J2_elementData (some x)) fun v1 =>
  zbd (zgI f_J2_size (some x)) fun v2 =>
  zif (a1 = none) (d_J2_remove_17 w F x v1 v2 F (0 : Int32))
  (d_J2_remove_39 w F x a1 v1 v2 F (0 : Int32))
theorem b_J2_remove_65 {w : Wd} {F : Nat} {h h1 : Hp} {y : Int32} {c s : Nat} (H : d_J2_remove_65 w F h = some (y, h1, c, s)) : V w mJ2_remove cJ2_remove 2 c s h 65 [none, none, none, none, none] [] (Ro (oI y) h1) := by
  unfold d_J2_remove_65 at H
  refine V_iconst (v := 0) (by decide) eJ2_remove_65 ?_
  obtain ⟨q, H⟩ := zgd_ok H
  obtain ⟨rfl, rfl, rfl, rfl⟩ := zrt_ok H
  exact V_zreturn eJ2_remove_66 rfl q ⟨rfl, rfl⟩
theorem b_J2_remove_67 {w : Wd} {F : Nat} {x : Nat} {a2 : Option Nat} {a4 : Int32} {h h1 : Hp} {y : Int32} {c s : Nat} (H : d_J2_remove_67 w F x a2 a4 h = some (y, h1, c, s)) : V w mJ2_remove cJ2_remove 2 c s h 67 [some (va_rf (some x)), none, some (va_rf a2), none, some (.int a4)] [] (Ro (oI y) h1) := by
  unfold d_J2_remove_67 at H
  refine V_aload0 eJ2_remove_67 (zrf_rf _) ?_
  refine V_aload2 eJ2_remove_68 (zrf_rf _) ?_
  refine V_iload4 eJ2_remove_69 ?_
  refine D_callU (pc' := 74) (st := []) H (fun v h' c1 s1 e cb sb k => ?_) (fun v5 h c s H => ?_)
  · obtain ⟨a, hr, ha, hk, e9⟩ := zv1_ok e
    cases hr
    exact V_invokevirtual (k := 30) eJ2_remove_71 lmJ2_fastRemove q1425 q1427 rfl rfl qs41 ha hk (c_J2_fastRemove e9) (hRet_oU _ _) rfl rfl rfl rfl (kOU k)
  refine V_iconst (v := 1) (by decide) eJ2_remove_74 ?_
  obtain ⟨q, H⟩ := zgd_ok H
  obtain ⟨rfl, rfl, rfl, rfl⟩ := zrt_ok H
  exact V_zreturn eJ2_remove_75 rfl q ⟨rfl, rfl⟩
theorem bB_J2_remove_39 {w : Wd} {F : Nat} {k39 : Int32 → M Int32} {x : Nat} {a1 : Option Nat} {a2 : Option Nat} {a3 : Int32} (hk39 : ∀ (a4 : Int32) (h : Hp) (y : Int32) (h1 : Hp) (c s : Nat), k39 a4 h = some (y, h1, c, s) → V w mJ2_remove cJ2_remove 2 c s h 39 [some (va_rf (some x)), some (va_rf a1), some (va_rf a2), some (.int a3), some (.int a4)] [] (Ro (oI y) h1)) {a4 : Int32} {h h1 : Hp} {y : Int32} {c s : Nat} (H : B_J2_remove_39 w F k39 x a1 a2 a3 a4 h = some (y, h1, c, s)) : V w mJ2_remove cJ2_remove 2 c s h 39 [some (va_rf (some x)), some (va_rf a1), some (va_rf a2), some (.int a3), some (.int a4)] [] (Ro (oI y) h1) := by
  unfold B_J2_remove_39 at H
  refine V_iload4 eJ2_remove_39 ?_
  refine V_iload3 eJ2_remove_41 ?_
  refine V_if_icmpge eJ2_remove_42 (fun q => ?_) (fun q => ?_)
  · have H := zif_t q H
    exact V_fg2 (b_J2_remove_65 H) (zfg_n (zfg_n (zfg_n (zfg_n (zfg_n zfg_e)))))
  · have H := zif_f q H
    refine V_aload1 eJ2_remove_45 (zrf_rf _) ?_
    refine V_aload2 eJ2_remove_46 (zrf_rf _) ?_
    refine V_iload4 eJ2_remove_47 ?_
    refine D_aaload eJ2_remove_49 H (fun v3 H => ?_)
    refine D_callI (pc' := 53) (st := []) H (fun v h' c1 s1 e cb sb k => ?_) (fun v4 h c s H => ?_)
    · obtain ⟨a, hr, ha, hk, e9⟩ := zv1_ok e
      cases hr
      obtain ⟨rfl, rfl, rfl, rfl⟩ := zrt_ok e9
      exact V_objequals (k := 20) eJ2_remove_50 q1387 q1388 q1412 q1424 (by decide) ha hk rfl rfl k
    refine V_ifeq eJ2_remove_53 (fun q => ?_) (fun q => ?_)
    · have H := zif_t q H
      refine V_iinc4 rfl eJ2_remove_59 rfl (v := 1) (by decide) ?_
      refine V_goto eJ2_remove_62 ?_
      exact V_fg2 (hk39 _ _ _ _ _ _ H) (zfg_k (zfg_k (zfg_k (zfg_k (zfg_k zfg_e)))))
    · have H := zif_f q H
      refine V_goto eJ2_remove_56 ?_
      exact V_fg2 (b_J2_remove_67 H) (zfg_k (zfg_n (zfg_k (zfg_n (zfg_k zfg_e)))))
theorem b_J2_remove_39 {w : Wd} {F : Nat} {x : Nat} {a1 : Option Nat} {a2 : Option Nat} {a3 : Int32} : ∀ (n : Nat) (a4 : Int32) (h : Hp) (y : Int32) (h1 : Hp) (c s : Nat), d_J2_remove_39 w F x a1 a2 a3 n a4 h = some (y, h1, c, s) → V w mJ2_remove cJ2_remove 2 c s h 39 [some (va_rf (some x)), some (va_rf a1), some (va_rf a2), some (.int a3), some (.int a4)] [] (Ro (oI y) h1) := by
  intro n
  induction n with
  | zero => intro a4 h y h1 c s H; exact zno_no H
  | succ n ih => intro a4 h y h1 c s H; exact bB_J2_remove_39 ih H
theorem bB_J2_remove_17 {w : Wd} {F : Nat} {k17 : Int32 → M Int32} {x : Nat} {a2 : Option Nat} {a3 : Int32} (hk17 : ∀ (a4 : Int32) (h : Hp) (y : Int32) (h1 : Hp) (c s : Nat), k17 a4 h = some (y, h1, c, s) → V w mJ2_remove cJ2_remove 2 c s h 17 [some (va_rf (some x)), none, some (va_rf a2), some (.int a3), some (.int a4)] [] (Ro (oI y) h1)) {a4 : Int32} {h h1 : Hp} {y : Int32} {c s : Nat} (H : B_J2_remove_17 w F k17 x a2 a3 a4 h = some (y, h1, c, s)) : V w mJ2_remove cJ2_remove 2 c s h 17 [some (va_rf (some x)), none, some (va_rf a2), some (.int a3), some (.int a4)] [] (Ro (oI y) h1) := by
  unfold B_J2_remove_17 at H
  refine V_iload4 eJ2_remove_17 ?_
  refine V_iload3 eJ2_remove_19 ?_
  refine V_if_icmpge eJ2_remove_20 (fun q => ?_) (fun q => ?_)
  · have H := zif_t q H
    exact V_fg2 (b_J2_remove_65 H) (zfg_n (zfg_n (zfg_n (zfg_n (zfg_n zfg_e)))))
  · have H := zif_f q H
    refine V_aload2 eJ2_remove_23 (zrf_rf _) ?_
    refine V_iload4 eJ2_remove_24 ?_
    refine D_aaload eJ2_remove_26 H (fun v3 H => ?_)
    refine V_ifnonnull eJ2_remove_27 (fun a q => ?_) (fun q => ?_)
    · have H := zif_f (zsn q) H
      refine V_iinc4 rfl eJ2_remove_33 rfl (v := 1) (by decide) ?_
      refine V_goto eJ2_remove_36 ?_
      exact V_fg2 (hk17 _ _ _ _ _ _ H) (zfg_k (zfg_n (zfg_k (zfg_k (zfg_k zfg_e)))))
    · have H := zif_t q H
      refine V_goto eJ2_remove_30 ?_
      exact V_fg2 (b_J2_remove_67 H) (zfg_k (zfg_n (zfg_k (zfg_n (zfg_k zfg_e)))))
theorem b_J2_remove_17 {w : Wd} {F : Nat} {x : Nat} {a2 : Option Nat} {a3 : Int32} : ∀ (n : Nat) (a4 : Int32) (h : Hp) (y : Int32) (h1 : Hp) (c s : Nat), d_J2_remove_17 w F x a2 a3 n a4 h = some (y, h1, c, s) → V w mJ2_remove cJ2_remove 2 c s h 17 [some (va_rf (some x)), none, some (va_rf a2), some (.int a3), some (.int a4)] [] (Ro (oI y) h1) := by
  intro n
  induction n with
  | zero => intro a4 h y h1 c s H; exact zno_no H
  | succ n ih => intro a4 h y h1 c s H; exact bB_J2_remove_17 ih H
theorem c_J2_remove {w : Wd} {F : Nat} {x : Nat} {a1 : Option Nat} {h h1 : Hp} {y : Int32} {c s : Nat} (H : o_J2_remove w F x a1 h = some (y, h1, c, s)) : Con w mJ2_remove cJ2_remove 2 c s [.ref x, va_rf a1] h (Ro (oI y) h1) := by
  unfold o_J2_remove at H
  refine Con.ofF (ls := [some (va_rf (some x)), some (va_rf a1), none, none, none]) (by decide +kernel) (by simp only [zsl_r, zsl_i, zsl_l, zsl_n, zsl_a]; rfl) (by simp only [zar_r, zar_i, zar_l, zar_n, zar_a]; rfl) ?_
  refine V_aload0 eJ2_remove_0 (zrf_rf _) ?_
  refine D_gR eJ2_remove_1 fq_J2_9_tR H (fun v1 H => ?_)
  refine V_astore2 (znl_rf _) eJ2_remove_4 rfl (zrf_rf _) ?_
  refine V_aload0 eJ2_remove_5 (zrf_rf _) ?_
  refine D_gI eJ2_remove_6 fq_J2_48_tI H (fun v2 H => ?_)
  refine V_istore3 (znl_rf _) eJ2_remove_9 rfl ?_
  refine V_iconst (v := 0) (by decide) eJ2_remove_10 ?_
  refine V_istore4 rfl eJ2_remove_11 rfl ?_
  refine V_aload1 eJ2_remove_13 (zrf_rf _) ?_
  refine V_ifnonnull eJ2_remove_14 (fun a q => ?_) (fun q => ?_)
  · have H := zif_f (zsn q) H
    exact V_fg2 (b_J2_remove_39 _ _ _ _ _ _ _ H) (zfg_k (zfg_k (zfg_k (zfg_k (zfg_k zfg_e)))))
  · have H := zif_t q H
    exact V_fg2 (b_J2_remove_17 _ _ _ _ _ _ _ H) (zfg_k (zfg_n (zfg_k (zfg_k (zfg_k zfg_e)))))
def o_J2_remove_2 (w : Wd) (F : Nat) (x : Nat) (a1 : Int32) : M (Option Nat) :=
  zbd (zgI f_J2_size (some x)) fun v1 =>
  zbd (o_J3_checkIndex w F a1 v1) fun v2 =>
  zbd (zgR f_J2_elementData (some x)) fun v3 =>
  zbd (zaR v3 a1) fun v4 =>
  zbd (zv1 30 (some x) (fun a => o_J2_fastRemove w F a v3 a1)) fun _ =>
  zrt v4
theorem c_J2_remove_2 {w : Wd} {F : Nat} {x : Nat} {a1 : Int32} {h h1 : Hp} {y : Option Nat} {c s : Nat} (H : o_J2_remove_2 w F x a1 h = some (y, h1, c, s)) : Con w mJ2_remove_2 cJ2_remove_2 2 c s [.ref x, .int a1] h (Ro (oR y) h1) := by
  unfold o_J2_remove_2 at H
  refine Con.ofF (ls := [some (va_rf (some x)), some (.int a1), none, none]) (by decide +kernel) rfl rfl ?_
  refine V_iload1 eJ2_remove_2_0 ?_
  refine V_aload0 eJ2_remove_2_1 (zrf_rf _) ?_
  refine D_gI eJ2_remove_2_2 fq_J2_48_tI H (fun v1 H => ?_)
  refine D_callI (pc' := 8) (st := []) H (fun v h' c1 s1 e cb sb k => ?_) (fun v2 h c s H => ?_)
  · exact V_invokestatic eJ2_remove_2_5 lmJ3_checkIndex q164 q165 (c_J3_checkIndex e) (hRet_oI _ _) rfl rfl rfl rfl (kOI k)
  refine V_pop rfl eJ2_remove_2_8 ?_
  refine V_aload0 eJ2_remove_2_9 (zrf_rf _) ?_
  refine D_gR eJ2_remove_2_10 fq_J2_9_tR H (fun v3 H => ?_)
  refine V_astore2 rfl eJ2_remove_2_13 rfl (zrf_rf _) ?_
  refine V_aload2 eJ2_remove_2_14 (zrf_rf _) ?_
  refine V_iload1 eJ2_remove_2_15 ?_
  refine D_aaload eJ2_remove_2_16 H (fun v4 H => ?_)
  refine V_astore3 (znl_rf _) eJ2_remove_2_17 rfl (zrf_rf _) ?_
  refine V_aload0 eJ2_remove_2_18 (zrf_rf _) ?_
  refine V_aload2 eJ2_remove_2_19 (zrf_rf _) ?_
  refine V_iload1 eJ2_remove_2_20 ?_
  refine D_callU (pc' := 24) (st := []) H (fun v h' c1 s1 e cb sb k => ?_) (fun v5 h c s H => ?_)
  · obtain ⟨a, hr, ha, hk, e9⟩ := zv1_ok e
    cases hr
    exact V_invokevirtual (k := 30) eJ2_remove_2_21 lmJ2_fastRemove q1425 q1427 rfl rfl qs41 ha hk (c_J2_fastRemove e9) (hRet_oU _ _) rfl rfl rfl rfl (kOU k)
  refine V_aload3 eJ2_remove_2_24 (zrf_rf _) ?_
  obtain ⟨rfl, rfl, rfl, rfl⟩ := zrt_ok H
  exact V_areturn eJ2_remove_2_25 rfl (Or.inl ⟨_, rfl⟩) ⟨rfl, rfl⟩
def o_J2_toArray (w : Wd) (F : Nat) (x : Nat) : M (Option Nat) :=
  zbd (zgR f_J2_elementData (some x)) fun v1 =>
  zbd (zgI f_J2_size (some x)) fun v2 =>
  zbd (o_J7_copyOf w F v1 v2) fun v3 =>
  zrt v3
theorem c_J2_toArray {w : Wd} {F : Nat} {x : Nat} {h h1 : Hp} {y : Option Nat} {c s : Nat} (H : o_J2_toArray w F x h = some (y, h1, c, s)) : Con w mJ2_toArray cJ2_toArray 3 c s [.ref x] h (Ro (oR y) h1) := by
  unfold o_J2_toArray at H
  refine Con.ofF (ls := [some (va_rf (some x))]) (by decide +kernel) rfl rfl ?_
  refine V_aload0 eJ2_toArray_0 (zrf_rf _) ?_
  refine D_gR eJ2_toArray_1 fq_J2_9_tR H (fun v1 H => ?_)
  refine V_aload0 eJ2_toArray_4 (zrf_rf _) ?_
  refine D_gI eJ2_toArray_5 fq_J2_48_tI H (fun v2 H => ?_)
  refine D_callR (pc' := 11) (st := []) H (fun v h' c1 s1 e cb sb k => ?_) (fun v3 h c s H => ?_)
  · exact V_invokestatic eJ2_toArray_8 lmJ7_copyOf q225 q226 (c_J7_copyOf e) (hRet_oR _ _) rfl rfl rfl rfl (kOR k)
  obtain ⟨rfl, rfl, rfl, rfl⟩ := zrt_ok H
  exact V_areturn eJ2_toArray_11 rfl (Or.inr ⟨_, rfl⟩) ⟨rfl, rfl⟩
theorem fn_J2_init_2_48 : FN mJ2_init_2 48 f_J2_size := by
  intro k j e
  unfold f_J2_size at e
  split at e
  · cases e; exact Or.inl rfl
  · cases e
theorem fn_J2_init_2_9 : FN mJ2_init_2 9 f_J2_elementData := by
  intro k j e
  unfold f_J2_elementData at e
  split at e
  · cases e; exact Or.inl rfl
  · cases e
def d_J2_init_2_64 (w : Wd) (F : Nat) : M Unit :=
  zrt ()
def o_J2_init_2 (w : Wd) (F : Nat) (x : Nat) (a1 : Option Nat) : M Unit :=
  zbd (o_J1_init w F x) fun _ =>
  zbd (zv1 30 a1 (fun a => o_J2_toArray w F a)) fun v2 =>
  zbd (zal v2) fun v3 =>
  zbd (zpI f_J2_size (some x) v3) fun _ =>
  zif (v3 = 0) (zbd (zpR f_J2_elementData (some x) (some (w.K 2))) fun _ =>
  d_J2_init_2_64 w F)
  (zbd (zv1 30 a1 (fun _ => zrt (some (w.K 3)))) fun v4 =>
  zif (v4 = (some (w.K 3))) (zbd (zpR f_J2_elementData (some x) v2) fun _ =>
  d_J2_init_2_64 w F)
  (zbd (zgI f_J2_size (some x)) fun v5 =>
  zbd (o_J7_copyOf_2 w F v2 v5 (some (w.K 4))) fun v6 =>
  zbd (zpR f_J2_elementData (some x) v6) fun _ =>
  d_J2_init_2_64 w F))
theorem b_J2_init_2_64 {w : Wd} {F : Nat} {h h1 : Hp} {y : Unit} {c s : Nat} (H : d_J2_init_2_64 w F h = some (y, h1, c, s)) : V w mJ2_init_2 cJ2_init_2 4 c s h 64 [none, none, none] [] (Ro (oU y) h1) := by
  unfold d_J2_init_2_64 at H
  obtain ⟨rfl, rfl, rfl, rfl⟩ := zrt_ok H
  exact V_return (x := ()) eJ2_init_2_64 rfl ⟨rfl, rfl⟩
theorem c_J2_init_2 {w : Wd} {F : Nat} {x : Nat} {a1 : Option Nat} {h h1 : Hp} {y : Unit} {c s : Nat} (H : o_J2_init_2 w F x a1 h = some (y, h1, c, s)) : Con w mJ2_init_2 cJ2_init_2 4 c s [.ref x, va_rf a1] h (Ro (oU y) h1) := by
  unfold o_J2_init_2 at H
  refine Con.ofF (ls := [some (va_rf (some x)), some (va_rf a1), none]) (by decide +kernel) (by simp only [zsl_r, zsl_i, zsl_l, zsl_n, zsl_a]; rfl) (by simp only [zar_r, zar_i, zar_l, zar_n, zar_a]; rfl) ?_
  refine V_aload0 eJ2_init_2_0 (zrf_rf _) ?_
  refine D_callU (pc' := 4) (st := []) H (fun v h' c1 s1 e cb sb k => ?_) (fun v1 h c s H => ?_)
  · exact V_invokeinit eJ2_init_2_1 lmJ1_init rfl rfl q310 q311 (c_J1_init e) (hRet_oU _ _) rfl rfl rfl rfl (kOU k)
  refine V_aload1 eJ2_init_2_4 (zrf_rf _) ?_
  refine D_callR (pc' := 10) (st := []) H (fun v h' c1 s1 e cb sb k => ?_) (fun v2 h c s H => ?_)
  · obtain ⟨a, hr, ha, hk, e9⟩ := zv1_ok e
    cases hr
    exact V_invokeinterface (k := 30) (x := ⟨"java/util/Collection", "toArray", "()[Ljava/lang/Object;"⟩) eJ2_init_2_5 lmJ2_toArray q1652 q1654 q1653 q1656 q1658 q1659 q1657 q1655 (by decide) rfl (by decide) ha hk (c_J2_toArray e9) (hRet_oR _ _) rfl rfl rfl rfl (kOR k)
  refine V_astore2 (znl_rf _) eJ2_init_2_10 rfl (zrf_rf _) ?_
  refine V_aload0 eJ2_init_2_11 (zrf_rf _) ?_
  refine V_aload2 eJ2_init_2_12 (zrf_rf _) ?_
  refine D_arraylength eJ2_init_2_13 H (fun v3 H => ?_)
  refine V_dup_x1 rfl (zcr _) eJ2_init_2_14 ?_
  refine D_pI eJ2_init_2_15 fq_J2_48_tN fn_J2_init_2_48 H (fun h H => ?_)
  refine V_ifeq eJ2_init_2_18 (fun q => ?_) (fun q => ?_)
  · have H := zif_t q H
    refine V_aload0 eJ2_init_2_57 (zrf_rf _) ?_
    refine V_getstatic (v := va_rf (some (w.K 2))) eJ2_init_2_58 (List.mem_cons_of_mem _ List.mem_cons_self) q1670 ?_
    refine D_pR eJ2_init_2_61 fq_J2_9_tR fn_J2_init_2_9 H (fun h H => ?_)
    exact V_fg2 (b_J2_init_2_64 H) (zfg_n (zfg_n (zfg_n zfg_e)))
  · have H := zif_f q H
    refine V_aload1 eJ2_init_2_21 (zrf_rf _) ?_
    refine D_callR (pc' := 27) (st := []) H (fun v h' c1 s1 e cb sb k => ?_) (fun v4 h c s H => ?_)
    · obtain ⟨a, hr, ha, hk, e9⟩ := zv1_ok e
      cases hr
      obtain ⟨rfl, rfl, rfl, rfl⟩ := zrt_ok e9
      exact V_getCI eJ2_init_2_22 q1662 q1664 q1663 q256 q229 q1666 q1665 q1655 q257 ha hk rfl rfl k
    refine V_ldcM (i := 3) eJ2_init_2_27 q1667 (Or.inl ⟨rfl, rfl⟩) ?_
    refine V_if_acmpne eJ2_init_2_29 (fun q => ?_) (fun q => ?_)
    · have H := zif_f q H
      refine V_aload0 eJ2_init_2_40 (zrf_rf _) ?_
      refine V_aload2 eJ2_init_2_41 (zrf_rf _) ?_
      refine V_aload0 eJ2_init_2_42 (zrf_rf _) ?_
      refine D_gI eJ2_init_2_43 fq_J2_48_tI H (fun v5 H => ?_)
      refine V_ldcM (i := 4) eJ2_init_2_46 q1668 (Or.inr ⟨rfl, rfl⟩) ?_
      refine D_callR (pc' := 51) (st := [va_rf (some x)]) H (fun v h' c1 s1 e cb sb k => ?_) (fun v6 h c s H => ?_)
      · exact V_invokestatic eJ2_init_2_48 lmJ7_copyOf_2 q1669 q259 (c_J7_copyOf_2 e) (hRet_oR _ _) rfl rfl rfl (by simp only [List.map_cons, List.map_nil, zcr]; rfl) (kOR k)
      refine D_pR eJ2_init_2_51 fq_J2_9_tR fn_J2_init_2_9 H (fun h H => ?_)
      refine V_goto eJ2_init_2_54 ?_
      exact V_fg2 (b_J2_init_2_64 H) (zfg_n (zfg_n (zfg_n zfg_e)))
    · have H := zif_t q H
      refine V_aload0 eJ2_init_2_32 (zrf_rf _) ?_
      refine V_aload2 eJ2_init_2_33 (zrf_rf _) ?_
      refine D_pR eJ2_init_2_34 fq_J2_9_tR fn_J2_init_2_9 H (fun h H => ?_)
      refine V_goto eJ2_init_2_37 ?_
      exact V_fg2 (b_J2_init_2_64 H) (zfg_n (zfg_n (zfg_n zfg_e)))
theorem fn_J2_clear_63 : FN mJ2_clear 63 f_J2_modCount := by
  intro k j e
  unfold f_J2_modCount at e
  split at e
  · cases e; exact Or.inl rfl
  · cases e
theorem fn_J2_clear_48 : FN mJ2_clear 48 f_J2_size := by
  intro k j e
  unfold f_J2_size at e
  split at e
  · cases e; exact Or.inl rfl
  · cases e
def B_J2_clear_27 (w : Wd) (F : Nat) (k27 : Int32 → M Unit) (a1 : Option Nat) (a2 : Int32) (a3 : Int32) : M Unit :=
  zif (a2 ≤ a3) (zrt ())
  (zbd (zsR 6 a1 a3 none) fun _ =>
  k27 (a3 + (1 : Int32)))
def d_J2_clear_27 (w : Wd) (F : Nat) (a1 : Option Nat) (a2 : Int32) : Nat → Int32 → M Unit
  | 0, _ => zno
  | n + 1, a3 => B_J2_clear_27 w F (d_J2_clear_27 w F a1 a2 n) a1 a2 a3
def o_J2_clear (w : Wd) (F : Nat) (x : Nat) : M Unit :=
  zbd (zgI f_J2_modCount (some x)) fun v1 =>
  zbd (zpI f_J2_modCount (some x) (v1 + (1 : Int32))) fun _ =>
  zbd (zgR f_J2_elementData (some x)) fun v2 =>
  zbd (zgI f_J2_size (some x)) fun v3 =>
  zbd (zpI f_J2_size (some x) (0 : Int32)) fun _ =>
  d_J2_clear_27 w F v2 v3 F (0 : Int32)
theorem bB_J2_clear_27 {w : Wd} {F : Nat} {k27 : Int32 → M Unit} {a1 : Option Nat} {a2 : Int32} (hk27 : ∀ (a3 : Int32) (h : Hp) (y : Unit) (h1 : Hp) (c s : Nat), k27 a3 h = some (y, h1, c, s) → V w mJ2_clear cJ2_clear 0 c s h 27 [none, some (va_rf a1), some (.int a2), some (.int a3)] [] (Ro (oU y) h1)) {a3 : Int32} {h h1 : Hp} {y : Unit} {c s : Nat} (H : B_J2_clear_27 w F k27 a1 a2 a3 h = some (y, h1, c, s)) : V w mJ2_clear cJ2_clear 0 c s h 27 [none, some (va_rf a1), some (.int a2), some (.int a3)] [] (Ro (oU y) h1) := by
  unfold B_J2_clear_27 at H
  refine V_iload3 eJ2_clear_27 ?_
  refine V_iload2 eJ2_clear_28 ?_
  refine V_if_icmpge eJ2_clear_29 (fun q => ?_) (fun q => ?_)
  · have H := zif_t q H
    obtain ⟨rfl, rfl, rfl, rfl⟩ := zrt_ok H
    exact V_return (x := ()) eJ2_clear_42 rfl ⟨rfl, rfl⟩
  · have H := zif_f q H
    refine V_aload1 eJ2_clear_32 (zrf_rf _) ?_
    refine V_iload3 eJ2_clear_33 ?_
    refine D_null eJ2_clear_34 ?_
    refine D_aastore eJ2_clear_35 H (fun h H => ?_)
    refine V_iinc3 rfl eJ2_clear_36 rfl (v := 1) (by decide) ?_
    refine V_goto eJ2_clear_39 ?_
    exact V_fg2 (hk27 _ _ _ _ _ _ H) (zfg_n (zfg_k (zfg_k (zfg_k zfg_e))))
theorem b_J2_clear_27 {w : Wd} {F : Nat} {a1 : Option Nat} {a2 : Int32} : ∀ (n : Nat) (a3 : Int32) (h : Hp) (y : Unit) (h1 : Hp) (c s : Nat), d_J2_clear_27 w F a1 a2 n a3 h = some (y, h1, c, s) → V w mJ2_clear cJ2_clear 0 c s h 27 [none, some (va_rf a1), some (.int a2), some (.int a3)] [] (Ro (oU y) h1) := by
  intro n
  induction n with
  | zero => intro a3 h y h1 c s H; exact zno_no H
  | succ n ih => intro a3 h y h1 c s H; exact bB_J2_clear_27 ih H
theorem c_J2_clear {w : Wd} {F : Nat} {x : Nat} {h h1 : Hp} {y : Unit} {c s : Nat} (H : o_J2_clear w F x h = some (y, h1, c, s)) : Con w mJ2_clear cJ2_clear 0 c s [.ref x] h (Ro (oU y) h1) := by
  unfold o_J2_clear at H
  refine Con.ofF (ls := [some (va_rf (some x)), none, none, none]) (by decide +kernel) rfl rfl ?_
  refine V_aload0 eJ2_clear_0 (zrf_rf _) ?_
  refine V_dup (zcr _) eJ2_clear_1 ?_
  refine D_gI eJ2_clear_2 fq_J2_63_tI H (fun v1 H => ?_)
  refine V_iconst (v := 1) (by decide) eJ2_clear_5 ?_
  refine V_iadd eJ2_clear_6 ?_
  refine D_pI eJ2_clear_7 fq_J2_63_tN fn_J2_clear_63 H (fun h H => ?_)
  refine V_aload0 eJ2_clear_10 (zrf_rf _) ?_
  refine D_gR eJ2_clear_11 fq_J2_9_tR H (fun v2 H => ?_)
  refine V_astore1 (znl_rf _) eJ2_clear_14 rfl (zrf_rf _) ?_
  refine V_aload0 eJ2_clear_15 (zrf_rf _) ?_
  refine D_gI eJ2_clear_16 fq_J2_48_tI H (fun v3 H => ?_)
  refine V_istore2 (znl_rf _) eJ2_clear_19 rfl ?_
  refine V_aload0 eJ2_clear_20 (zrf_rf _) ?_
  refine V_iconst (v := 0) (by decide) eJ2_clear_21 ?_
  refine V_dup_x1 rfl (zcr _) eJ2_clear_22 ?_
  refine D_pI eJ2_clear_23 fq_J2_48_tN fn_J2_clear_48 H (fun h H => ?_)
  refine V_istore3 rfl eJ2_clear_26 rfl ?_
  exact V_fg2 (b_J2_clear_27 _ _ _ _ _ _ _ H) (zfg_n (zfg_k (zfg_k (zfg_k zfg_e))))
def d_J6_abs_10 (w : Wd) (F : Nat) (s0 : Int32) : M Int32 :=
  zrt s0
def o_J6_abs (w : Wd) (F : Nat) (a0 : Int32) : M Int32 :=
  zif (0 ≤ a0) (d_J6_abs_10 w F a0)
  (d_J6_abs_10 w F (-a0))
theorem b_J6_abs_10 {w : Wd} {F : Nat} {s0 : Int32} {h h1 : Hp} {y : Int32} {c s : Nat} (H : d_J6_abs_10 w F s0 h = some (y, h1, c, s)) : V w mJ6_abs cJ6_abs 0 c s h 10 [none] [.int s0] (Ro (oI y) h1) := by
  unfold d_J6_abs_10 at H
  obtain ⟨rfl, rfl, rfl, rfl⟩ := zrt_ok H
  exact V_ireturn eJ6_abs_10 rfl ⟨rfl, rfl⟩
theorem c_J6_abs {w : Wd} {F : Nat} {a0 : Int32} {h h1 : Hp} {y : Int32} {c s : Nat} (H : o_J6_abs w F a0 h = some (y, h1, c, s)) : Con w mJ6_abs cJ6_abs 0 c s [.int a0] h (Ro (oI y) h1) := by
  unfold o_J6_abs at H
  refine Con.ofF (ls := [some (.int a0)]) (by decide +kernel) rfl rfl ?_
  refine V_iload0 eJ6_abs_0 ?_
  refine V_ifge eJ6_abs_1 (fun q => ?_) (fun q => ?_)
  · have H := zif_t q H
    refine V_iload0 eJ6_abs_9 ?_
    exact V_fg2 (b_J6_abs_10 H) (zfg_n zfg_e)
  · have H := zif_f q H
    refine V_iload0 eJ6_abs_4 ?_
    refine V_ineg eJ6_abs_5 ?_
    refine V_goto eJ6_abs_6 ?_
    exact V_fg2 (b_J6_abs_10 H) (zfg_n zfg_e)
def d_J6_min_2_11 (w : Wd) (F : Nat) (s0 : Int64) : M Int64 :=
  zrt s0
def o_J6_min_2 (w : Wd) (F : Nat) (a0 : Int64) (a2 : Int64) : M Int64 :=
  zif (0 < (lg_cmp a0 a2)) (d_J6_min_2_11 w F a2)
  (d_J6_min_2_11 w F a0)
theorem b_J6_min_2_11 {w : Wd} {F : Nat} {s0 : Int64} {h h1 : Hp} {y : Int64} {c s : Nat} (H : d_J6_min_2_11 w F s0 h = some (y, h1, c, s)) : V w mJ6_min_2 cJ6_min_2 0 c s h 11 [none, none, none, none] [.long s0] (Ro (oL y) h1) := by
  unfold d_J6_min_2_11 at H
  obtain ⟨rfl, rfl, rfl, rfl⟩ := zrt_ok H
  exact V_lreturn eJ6_min_2_11 rfl ⟨rfl, rfl⟩
theorem c_J6_min_2 {w : Wd} {F : Nat} {a0 : Int64} {a2 : Int64} {h h1 : Hp} {y : Int64} {c s : Nat} (H : o_J6_min_2 w F a0 a2 h = some (y, h1, c, s)) : Con w mJ6_min_2 cJ6_min_2 0 c s [.long a0, .long a2] h (Ro (oL y) h1) := by
  unfold o_J6_min_2 at H
  refine Con.ofF (ls := [some (.long a0), none, some (.long a2), none]) (by decide +kernel) rfl rfl ?_
  refine V_lload0 eJ6_min_2_0 ?_
  refine V_lload2 eJ6_min_2_1 ?_
  refine V_lcmp eJ6_min_2_2 ?_
  refine V_ifgt eJ6_min_2_3 (fun q => ?_) (fun q => ?_)
  · have H := zif_t q H
    refine V_lload2 eJ6_min_2_10 ?_
    exact V_fg2 (b_J6_min_2_11 H) (zfg_n (zfg_n (zfg_n (zfg_n zfg_e))))
  · have H := zif_f q H
    refine V_lload0 eJ6_min_2_6 ?_
    refine V_goto eJ6_min_2_7 ?_
    exact V_fg2 (b_J6_min_2_11 H) (zfg_n (zfg_n (zfg_n (zfg_n zfg_e))))
def f_J8_cause : Nat → Option Nat := fun k => match k with
  | 5 => some 0
  | 16 => some 0
  | _ => none
theorem fq_J8_7_tR : FQ RJ8 7 f_J8_cause tR := by
  intro k j e
  unfold f_J8_cause at e
  split at e
  · cases e; exact ⟨fl_J8_7_5, Or.inl ⟨_, rfl⟩⟩
  · cases e; exact ⟨fl_J8_7_16, Or.inl ⟨_, rfl⟩⟩
  · cases e
theorem fn_J8_init_2_7 : FN mJ8_init_2 7 f_J8_cause := by
  intro k j e
  unfold f_J8_cause at e
  split at e
  · cases e; exact Or.inl rfl
  · cases e; exact Or.inl rfl
  · cases e
def f_J8_stackTrace : Nat → Option Nat := fun k => match k with
  | 5 => some 1
  | 16 => some 1
  | _ => none
theorem fq_J8_17_tR : FQ RJ8 17 f_J8_stackTrace tR := by
  intro k j e
  unfold f_J8_stackTrace at e
  split at e
  · cases e; exact ⟨fl_J8_17_5, Or.inr ⟨_, rfl⟩⟩
  · cases e; exact ⟨fl_J8_17_16, Or.inr ⟨_, rfl⟩⟩
  · cases e
theorem fn_J8_init_2_17 : FN mJ8_init_2 17 f_J8_stackTrace := by
  intro k j e
  unfold f_J8_stackTrace at e
  split at e
  · cases e; exact Or.inl rfl
  · cases e; exact Or.inl rfl
  · cases e
def f_J8_suppressedExceptions : Nat → Option Nat := fun k => match k with
  | 5 => some 2
  | 16 => some 2
  | _ => none
theorem fq_J8_24_tR : FQ RJ8 24 f_J8_suppressedExceptions tR := by
  intro k j e
  unfold f_J8_suppressedExceptions at e
  split at e
  · cases e; exact ⟨fl_J8_24_5, Or.inl ⟨_, rfl⟩⟩
  · cases e; exact ⟨fl_J8_24_16, Or.inl ⟨_, rfl⟩⟩
  · cases e
theorem fn_J8_init_2_24 : FN mJ8_init_2 24 f_J8_suppressedExceptions := by
  intro k j e
  unfold f_J8_suppressedExceptions at e
  split at e
  · cases e; exact Or.inl rfl
  · cases e; exact Or.inl rfl
  · cases e
def f_J8_detailMessage : Nat → Option Nat := fun k => match k with
  | 5 => some 3
  | 16 => some 3
  | _ => none
theorem fq_J8_31_tR : FQ RJ8 31 f_J8_detailMessage tR := by
  intro k j e
  unfold f_J8_detailMessage at e
  split at e
  · cases e; exact ⟨fl_J8_31_5, Or.inl ⟨_, rfl⟩⟩
  · cases e; exact ⟨fl_J8_31_16, Or.inl ⟨_, rfl⟩⟩
  · cases e
theorem fn_J8_init_2_31 : FN mJ8_init_2 31 f_J8_detailMessage := by
  intro k j e
  unfold f_J8_detailMessage at e
  split at e
  · cases e; exact Or.inl rfl
  · cases e; exact Or.inl rfl
  · cases e
def d_J8_init_2_60 (w : Wd) (F : Nat) : M Unit :=
  zrt ()
def d_J8_init_2_41 (w : Wd) (F : Nat) (x : Nat) (a1 : Option Nat) (a2 : Option Nat) (a3 : Int32) : M Unit :=
  zbd (zpR f_J8_detailMessage (some x) a1) fun _ =>
  zbd (zpR f_J8_cause (some x) a2) fun _ =>
  zif (a3 = 0) (zbd (zpR f_J8_suppressedExceptions (some x) none) fun _ =>
  d_J8_init_2_60 w F)
  (d_J8_init_2_60 w F)
def o_J8_init_2 (w : Wd) (F : Nat) (x : Nat) (a1 : Option Nat) (a2 : Option Nat) (a3 : Int32) (a4 : Int32) : M Unit :=
  zbd (zpR f_J8_cause (some x) (some x)) fun _ =>
  zbd (zpR f_J8_stackTrace (some x) (wO w 1)) fun _ =>
  zbd (zpR f_J8_suppressedExceptions (some x) (wO w 2)) fun _ =>
  zif (a4 = 0) (zbd (zpR f_J8_stackTrace (some x) none) fun _ =>
  d_J8_init_2_41 w F x a1 a2 a3)
  (zno)
theorem b_J8_init_2_60 {w : Wd} {F : Nat} {h h1 : Hp} {y : Unit} {c s : Nat} (H : d_J8_init_2_60 w F h = some (y, h1, c, s)) : V w mJ8_init_2 cJ8_init_2 1 c s h 60 [none, none, none, none, none] [] (Ro (oU y) h1) := by
  unfold d_J8_init_2_60 at H
  obtain ⟨rfl, rfl, rfl, rfl⟩ := zrt_ok H
  exact V_return (x := ()) eJ8_init_2_60 rfl ⟨rfl, rfl⟩
theorem b_J8_init_2_41 {w : Wd} {F : Nat} {x : Nat} {a1 : Option Nat} {a2 : Option Nat} {a3 : Int32} {h h1 : Hp} {y : Unit} {c s : Nat} (H : d_J8_init_2_41 w F x a1 a2 a3 h = some (y, h1, c, s)) : V w mJ8_init_2 cJ8_init_2 1 c s h 41 [some (va_rf (some x)), some (va_rf a1), some (va_rf a2), some (.int a3), none] [] (Ro (oU y) h1) := by
  unfold d_J8_init_2_41 at H
  refine V_aload0 eJ8_init_2_41 (zrf_rf _) ?_
  refine V_aload1 eJ8_init_2_42 (zrf_rf _) ?_
  refine D_pR eJ8_init_2_43 fq_J8_31_tR fn_J8_init_2_31 H (fun h H => ?_)
  refine V_aload0 eJ8_init_2_46 (zrf_rf _) ?_
  refine V_aload2 eJ8_init_2_47 (zrf_rf _) ?_
  refine D_pR eJ8_init_2_48 fq_J8_7_tR fn_J8_init_2_7 H (fun h H => ?_)
  refine V_iload3 eJ8_init_2_51 ?_
  refine V_ifne eJ8_init_2_52 (fun q => ?_) (fun q => ?_)
  · have H := zif_f q H
    exact V_fg2 (b_J8_init_2_60 H) (zfg_n (zfg_n (zfg_n (zfg_n (zfg_n zfg_e)))))
  · have H := zif_t q H
    refine V_aload0 eJ8_init_2_55 (zrf_rf _) ?_
    refine D_null eJ8_init_2_56 ?_
    refine D_pR eJ8_init_2_57 fq_J8_24_tR fn_J8_init_2_24 H (fun h H => ?_)
    exact V_fg2 (b_J8_init_2_60 H) (zfg_n (zfg_n (zfg_n (zfg_n (zfg_n zfg_e)))))
theorem c_J8_init_2 {w : Wd} {F : Nat} {x : Nat} {a1 : Option Nat} {a2 : Option Nat} {a3 : Int32} {a4 : Int32} {h h1 : Hp} {y : Unit} {c s : Nat} (H : o_J8_init_2 w F x a1 a2 a3 a4 h = some (y, h1, c, s)) : Con w mJ8_init_2 cJ8_init_2 1 c s [.ref x, va_rf a1, va_rf a2, .int a3, .int a4] h (Ro (oU y) h1) := by
  unfold o_J8_init_2 at H
  refine Con.ofF (ls := [some (va_rf (some x)), some (va_rf a1), some (va_rf a2), some (.int a3), some (.int a4)]) (by decide +kernel) (by simp only [zsl_r, zsl_i, zsl_l, zsl_n, zsl_a]; rfl) (by simp only [zar_r, zar_i, zar_l, zar_n, zar_a]; rfl) ?_
  refine V_aload0 eJ8_init_2_0 (zrf_rf _) ?_
  refine V_objectinit eJ8_init_2_1 q384 q180 q181 rfl rfl ?_
  refine V_aload0 eJ8_init_2_4 (zrf_rf _) ?_
  refine V_aload0 eJ8_init_2_5 (zrf_rf _) ?_
  refine D_pR eJ8_init_2_6 fq_J8_7_tR fn_J8_init_2_7 H (fun h H => ?_)
  refine V_aload0 eJ8_init_2_9 (zrf_rf _) ?_
  refine V_getstatic (v := va_rf (wO w 1)) eJ8_init_2_10 (List.mem_cons_of_mem _ (List.mem_cons_of_mem _ (List.mem_cons_of_mem _ List.mem_cons_self))) q385 ?_
  refine D_pR eJ8_init_2_13 fq_J8_17_tR fn_J8_init_2_17 H (fun h H => ?_)
  refine V_aload0 eJ8_init_2_16 (zrf_rf _) ?_
  refine V_getstatic (v := va_rf (wO w 2)) eJ8_init_2_17 (List.mem_cons_of_mem _ (List.mem_cons_of_mem _ (List.mem_cons_of_mem _ (List.mem_cons_of_mem _ List.mem_cons_self)))) q387 ?_
  refine D_pR eJ8_init_2_20 fq_J8_24_tR fn_J8_init_2_24 H (fun h H => ?_)
  refine V_iload4 eJ8_init_2_23 ?_
  refine V_ifeq eJ8_init_2_25 (fun q => ?_) (fun q => ?_)
  · have H := zif_t q H
    refine V_aload0 eJ8_init_2_36 (zrf_rf _) ?_
    refine D_null eJ8_init_2_37 ?_
    refine D_pR eJ8_init_2_38 fq_J8_17_tR fn_J8_init_2_17 H (fun h H => ?_)
    exact V_fg2 (b_J8_init_2_41 H) (zfg_k (zfg_k (zfg_k (zfg_k (zfg_n zfg_e)))))
  · have H := zif_f q H
    refine V_aload0 eJ8_init_2_28 (zrf_rf _) ?_
    exact zno_no H
def o_J9_init (w : Wd) (F : Nat) (x : Nat) (a1 : Option Nat) (a2 : Option Nat) (a3 : Int32) (a4 : Int32) : M Unit :=
  zbd (o_J8_init_2 w F x a1 a2 a3 a4) fun _ =>
  zrt ()
theorem c_J9_init {w : Wd} {F : Nat} {x : Nat} {a1 : Option Nat} {a2 : Option Nat} {a3 : Int32} {a4 : Int32} {h h1 : Hp} {y : Unit} {c s : Nat} (H : o_J9_init w F x a1 a2 a3 a4 h = some (y, h1, c, s)) : Con w mJ9_init cJ9_init 2 c s [.ref x, va_rf a1, va_rf a2, .int a3, .int a4] h (Ro (oU y) h1) := by
  unfold o_J9_init at H
  refine Con.ofF (ls := [some (va_rf (some x)), some (va_rf a1), some (va_rf a2), some (.int a3), some (.int a4)]) (by decide +kernel) (by simp only [zsl_r, zsl_i, zsl_l, zsl_n, zsl_a]; rfl) (by simp only [zar_r, zar_i, zar_l, zar_n, zar_a]; rfl) ?_
  refine V_aload0 eJ9_init_0 (zrf_rf _) ?_
  refine V_aload1 eJ9_init_1 (zrf_rf _) ?_
  refine V_aload2 eJ9_init_2 (zrf_rf _) ?_
  refine V_iload3 eJ9_init_3 ?_
  refine V_iload4 eJ9_init_4 ?_
  refine D_callU (pc' := 9) (st := []) H (fun v h' c1 s1 e cb sb k => ?_) (fun v1 h c s H => ?_)
  · exact V_invokeinit eJ9_init_6 lmJ8_init_2 rfl rfl q405 q406 (c_J8_init_2 e) (hRet_oU _ _) rfl rfl rfl rfl (kOU k)
  obtain ⟨rfl, rfl, rfl, rfl⟩ := zrt_ok H
  exact V_return (x := ()) eJ9_init_9 rfl ⟨rfl, rfl⟩
def d_X0_in_15 (w : Wd) (F : Nat) (s0 : Int32) : M Int32 :=
  zbd (zgd (s0 = 0 ∨ s0 = 1)) fun _ => zrt s0
def d_X0_in_14 (w : Wd) (F : Nat) : M Int32 :=
  d_X0_in_15 w F (0 : Int32)
def o_X0_in (w : Wd) (F : Nat) (a0 : Int32) (a1 : Int32) (a2 : Int32) : M Int32 :=
  zif (a0 < a1) (d_X0_in_14 w F)
  (zif (a2 < a0) (d_X0_in_14 w F)
  (d_X0_in_15 w F (1 : Int32)))
theorem b_X0_in_15 {w : Wd} {F : Nat} {s0 : Int32} {h h1 : Hp} {y : Int32} {c s : Nat} (H : d_X0_in_15 w F s0 h = some (y, h1, c, s)) : V w mX0_in cX0_in 0 c s h 15 [none, none, none] [.int s0] (Ro (oI y) h1) := by
  unfold d_X0_in_15 at H
  obtain ⟨q, H⟩ := zgd_ok H
  obtain ⟨rfl, rfl, rfl, rfl⟩ := zrt_ok H
  exact V_zreturn eX0_in_15 rfl q ⟨rfl, rfl⟩
theorem b_X0_in_14 {w : Wd} {F : Nat} {h h1 : Hp} {y : Int32} {c s : Nat} (H : d_X0_in_14 w F h = some (y, h1, c, s)) : V w mX0_in cX0_in 0 c s h 14 [none, none, none] [] (Ro (oI y) h1) := by
  unfold d_X0_in_14 at H
  refine V_iconst (v := 0) (by decide) eX0_in_14 ?_
  exact V_fg2 (b_X0_in_15 H) (zfg_n (zfg_n (zfg_n zfg_e)))
theorem c_X0_in {w : Wd} {F : Nat} {a0 : Int32} {a1 : Int32} {a2 : Int32} {h h1 : Hp} {y : Int32} {c s : Nat} (H : o_X0_in w F a0 a1 a2 h = some (y, h1, c, s)) : Con w mX0_in cX0_in 0 c s [.int a0, .int a1, .int a2] h (Ro (oI y) h1) := by
  unfold o_X0_in at H
  refine Con.of (ls := [some (.int a0), some (.int a1), some (.int a2)]) (by decide +kernel) rfl rfl ?_
  refine V_iload0 eX0_in_0 ?_
  refine V_iload1 eX0_in_1 ?_
  refine V_if_icmplt eX0_in_2 (fun q => ?_) (fun q => ?_)
  · have H := zif_t q H
    exact V_fg2 (b_X0_in_14 H) (zfg_n (zfg_n (zfg_n zfg_e)))
  · have H := zif_f q H
    refine V_iload0 eX0_in_5 ?_
    refine V_iload2 eX0_in_6 ?_
    refine V_if_icmpgt eX0_in_7 (fun q => ?_) (fun q => ?_)
    · have H := zif_t q H
      exact V_fg2 (b_X0_in_14 H) (zfg_n (zfg_n (zfg_n zfg_e)))
    · have H := zif_f q H
      refine V_iconst (v := 1) (by decide) eX0_in_10 ?_
      refine V_goto eX0_in_11 ?_
      exact V_fg2 (b_X0_in_15 H) (zfg_n (zfg_n (zfg_n zfg_e)))
def o_X0_isCell (w : Wd) (F : Nat) (a0 : Int32) : M Int32 :=
  zbd (o_X0_in w F a0 (0 : Int32) (79 : Int32)) fun v1 =>
  zbd (zgd (v1 = 0 ∨ v1 = 1)) fun _ => zrt v1
theorem c_X0_isCell {w : Wd} {F : Nat} {a0 : Int32} {h h1 : Hp} {y : Int32} {c s : Nat} (H : o_X0_isCell w F a0 h = some (y, h1, c, s)) : Con w mX0_isCell cX0_isCell 1 c s [.int a0] h (Ro (oI y) h1) := by
  unfold o_X0_isCell at H
  refine Con.of (ls := [some (.int a0)]) (by decide +kernel) rfl rfl ?_
  refine V_iload0 eX0_isCell_0 ?_
  refine V_iconst (v := 0) (by decide) eX0_isCell_1 ?_
  refine V_bipush (v := 79) (by decide) eX0_isCell_2 ?_
  refine D_callI (pc' := 7) (st := []) H (fun v h' c1 s1 e cb sb k => ?_) (fun v1 h c s H => ?_)
  · exact V_invokestatic eX0_isCell_4 lmX0_in q149 q150 (c_X0_in e) (hRet_oI _ _) rfl rfl rfl rfl (kOI k)
  obtain ⟨q, H⟩ := zgd_ok H
  obtain ⟨rfl, rfl, rfl, rfl⟩ := zrt_ok H
  exact V_zreturn eX0_isCell_7 rfl q ⟨rfl, rfl⟩
def f_X0_kind : Nat → Option Nat := fun k => match k with
  | 0 => some 1
  | _ => none
theorem fq_X0_21_tR : FQ RX0 21 f_X0_kind tR := by
  intro k j e
  unfold f_X0_kind at e
  split at e
  · cases e; exact ⟨fl_X0_21_0, Or.inr ⟨_, rfl⟩⟩
  · cases e
def f_X0_height : Nat → Option Nat := fun k => match k with
  | 0 => some 0
  | _ => none
theorem fq_X0_13_tR : FQ RX0 13 f_X0_height tR := by
  intro k j e
  unfold f_X0_height at e
  split at e
  · cases e; exact ⟨fl_X0_13_0, Or.inr ⟨_, rfl⟩⟩
  · cases e
def d_X0_land_16 (w : Wd) (F : Nat) : M Int32 :=
  zrt (-1 : Int32)
def d_X0_land_54 (w : Wd) (F : Nat) (a1 : Int32) (a3 : Int32) (s0 : Option Nat) : M Int32 :=
  zbd (zaI 0 s0 a1) fun v5 =>
  zbd (zsI 0 s0 a1 a3) fun _ =>
  zrt v5
def d_X0_land_30 (w : Wd) (F : Nat) (x : Nat) (a1 : Int32) (a2 : Int32) (a3 : Int32) (s0 : Int32) (s1 : Int32) (s2 : Int32) : M Int32 :=
  zbd (o_X0_in w F s0 s1 s2) fun v3 =>
  zif (v3 = 0) (zrt (-2 : Int32))
  (zif (a2 = 0) (zbd (zgR f_X0_height (some x)) fun v5 =>
  d_X0_land_54 w F a1 a3 v5)
  (zbd (zgR f_X0_kind (some x)) fun v4 =>
  d_X0_land_54 w F a1 a3 v4))
def o_X0_land (w : Wd) (F : Nat) (x : Nat) (a1 : Int32) (a2 : Int32) (a3 : Int32) : M Int32 :=
  zbd (o_X0_isCell w F a1) fun v1 =>
  zif (v1 = 0) (d_X0_land_16 w F)
  (zbd (o_X0_in w F a2 (0 : Int32) (1 : Int32)) fun v2 =>
  zif (v2 = 0) (d_X0_land_16 w F)
  (zif (a2 = 0) (d_X0_land_30 w F x a1 a2 a3 a3 (0 : Int32) (99 : Int32))
  (d_X0_land_30 w F x a1 a2 a3 a3 (0 : Int32) (2 : Int32))))
theorem b_X0_land_16 {w : Wd} {F : Nat} {h h1 : Hp} {y : Int32} {c s : Nat} (H : d_X0_land_16 w F h = some (y, h1, c, s)) : V w mX0_land cX0_land 2 c s h 16 [none, none, none, none, none, none] [] (Ro (oI y) h1) := by
  unfold d_X0_land_16 at H
  refine V_iconst (v := -1) (by decide) eX0_land_16 ?_
  obtain ⟨rfl, rfl, rfl, rfl⟩ := zrt_ok H
  exact V_ireturn eX0_land_17 rfl ⟨rfl, rfl⟩
theorem b_X0_land_54 {w : Wd} {F : Nat} {a1 : Int32} {a3 : Int32} {s0 : Option Nat} {h h1 : Hp} {y : Int32} {c s : Nat} (H : d_X0_land_54 w F a1 a3 s0 h = some (y, h1, c, s)) : V w mX0_land cX0_land 2 c s h 54 [none, some (.int a1), none, some (.int a3), none, none] [va_rf s0] (Ro (oI y) h1) := by
  unfold d_X0_land_54 at H
  refine V_astore4 rfl eX0_land_54 rfl (zrf_rf _) ?_
  refine V_aload4 eX0_land_56 (zrf_rf _) ?_
  refine V_iload1 eX0_land_58 ?_
  refine D_iaload eX0_land_59 H (fun v5 H => ?_)
  refine V_istore5 (znl_rf _) eX0_land_60 rfl ?_
  refine V_aload4 eX0_land_62 (zrf_rf _) ?_
  refine V_iload1 eX0_land_64 ?_
  refine V_iload3 eX0_land_65 ?_
  refine D_iastore eX0_land_66 H (fun h H => ?_)
  refine V_iload5 eX0_land_67 ?_
  obtain ⟨rfl, rfl, rfl, rfl⟩ := zrt_ok H
  exact V_ireturn eX0_land_69 rfl ⟨rfl, rfl⟩
theorem b_X0_land_30 {w : Wd} {F : Nat} {x : Nat} {a1 : Int32} {a2 : Int32} {a3 : Int32} {s0 : Int32} {s1 : Int32} {s2 : Int32} {h h1 : Hp} {y : Int32} {c s : Nat} (H : d_X0_land_30 w F x a1 a2 a3 s0 s1 s2 h = some (y, h1, c, s)) : V w mX0_land cX0_land 2 c s h 30 [some (va_rf (some x)), some (.int a1), some (.int a2), some (.int a3), none, none] [.int s2, .int s1, .int s0] (Ro (oI y) h1) := by
  unfold d_X0_land_30 at H
  refine D_callI (pc' := 33) (st := []) H (fun v h' c1 s1 e cb sb k => ?_) (fun v3 h c s H => ?_)
  · exact V_invokestatic eX0_land_30 lmX0_in q149 q150 (c_X0_in e) (hRet_oI _ _) rfl rfl rfl rfl (kOI k)
  refine V_ifne eX0_land_33 (fun q => ?_) (fun q => ?_)
  · have H := zif_f q H
    refine V_iload2 eX0_land_39 ?_
    refine V_ifne eX0_land_40 (fun q => ?_) (fun q => ?_)
    · have H := zif_f q H
      refine V_aload0 eX0_land_50 (zrf_rf _) ?_
      refine D_gR eX0_land_51 fq_X0_21_tR H (fun v4 H => ?_)
      exact V_fg2 (b_X0_land_54 H) (zfg_n (zfg_k (zfg_n (zfg_k (zfg_n (zfg_n zfg_e))))))
    · have H := zif_t q H
      refine V_aload0 eX0_land_43 (zrf_rf _) ?_
      refine D_gR eX0_land_44 fq_X0_13_tR H (fun v5 H => ?_)
      refine V_goto eX0_land_47 ?_
      exact V_fg2 (b_X0_land_54 H) (zfg_n (zfg_k (zfg_n (zfg_k (zfg_n (zfg_n zfg_e))))))
  · have H := zif_t q H
    refine V_bipush (v := -2) (by decide) eX0_land_36 ?_
    obtain ⟨rfl, rfl, rfl, rfl⟩ := zrt_ok H
    exact V_ireturn eX0_land_38 rfl ⟨rfl, rfl⟩
theorem c_X0_land {w : Wd} {F : Nat} {x : Nat} {a1 : Int32} {a2 : Int32} {a3 : Int32} {h h1 : Hp} {y : Int32} {c s : Nat} (H : o_X0_land w F x a1 a2 a3 h = some (y, h1, c, s)) : Con w mX0_land cX0_land 2 c s [.ref x, .int a1, .int a2, .int a3] h (Ro (oI y) h1) := by
  unfold o_X0_land at H
  refine Con.of (ls := [some (va_rf (some x)), some (.int a1), some (.int a2), some (.int a3), none, none]) (by decide +kernel) rfl rfl ?_
  refine V_iload1 eX0_land_0 ?_
  refine D_callI (pc' := 4) (st := []) H (fun v h' c1 s1 e cb sb k => ?_) (fun v1 h c s H => ?_)
  · exact V_invokestatic eX0_land_1 lmX0_isCell q146 q147 (c_X0_isCell e) (hRet_oI _ _) rfl rfl rfl rfl (kOI k)
  refine V_ifeq eX0_land_4 (fun q => ?_) (fun q => ?_)
  · have H := zif_t q H
    exact V_fg2 (b_X0_land_16 H) (zfg_n (zfg_n (zfg_n (zfg_n (zfg_n (zfg_n zfg_e))))))
  · have H := zif_f q H
    refine V_iload2 eX0_land_7 ?_
    refine V_iconst (v := 0) (by decide) eX0_land_8 ?_
    refine V_iconst (v := 1) (by decide) eX0_land_9 ?_
    refine D_callI (pc' := 13) (st := []) H (fun v h' c1 s1 e cb sb k => ?_) (fun v2 h c s H => ?_)
    · exact V_invokestatic eX0_land_10 lmX0_in q149 q150 (c_X0_in e) (hRet_oI _ _) rfl rfl rfl rfl (kOI k)
    refine V_ifne eX0_land_13 (fun q => ?_) (fun q => ?_)
    · have H := zif_f q H
      refine V_iload3 eX0_land_18 ?_
      refine V_iconst (v := 0) (by decide) eX0_land_19 ?_
      refine V_iload2 eX0_land_20 ?_
      refine V_ifne eX0_land_21 (fun q => ?_) (fun q => ?_)
      · have H := zif_f q H
        refine V_iconst (v := 2) (by decide) eX0_land_29 ?_
        exact V_fg2 (b_X0_land_30 H) (zfg_k (zfg_k (zfg_k (zfg_k (zfg_n (zfg_n zfg_e))))))
      · have H := zif_t q H
        refine V_bipush (v := 99) (by decide) eX0_land_24 ?_
        refine V_goto eX0_land_26 ?_
        exact V_fg2 (b_X0_land_30 H) (zfg_k (zfg_k (zfg_k (zfg_k (zfg_n (zfg_n zfg_e))))))
    · have H := zif_t q H
      exact V_fg2 (b_X0_land_16 H) (zfg_n (zfg_n (zfg_n (zfg_n (zfg_n (zfg_n zfg_e))))))
def f_X3_number : Nat → Option Nat := fun k => match k with
  | 3 => some 0
  | _ => none
theorem fq_X3_7_tN : FQ RX3 7 f_X3_number tN := by
  intro k j e
  unfold f_X3_number at e
  split at e
  · cases e; exact ⟨fl_X3_7_3, rfl⟩
  · cases e
theorem fn_X3_init_7 : FN mX3_init 7 f_X3_number := by
  intro k j e
  unfold f_X3_number at e
  split at e
  · cases e; exact Or.inr ⟨rfl, rfl, rfl, _, q182, rfl⟩
  · cases e
def f_X3_cell : Nat → Option Nat := fun k => match k with
  | 3 => some 1
  | _ => none
theorem fq_X3_13_tN : FQ RX3 13 f_X3_cell tN := by
  intro k j e
  unfold f_X3_cell at e
  split at e
  · cases e; exact ⟨fl_X3_13_3, rfl⟩
  · cases e
theorem fn_X3_init_13 : FN mX3_init 13 f_X3_cell := by
  intro k j e
  unfold f_X3_cell at e
  split at e
  · cases e; exact Or.inr ⟨rfl, rfl, rfl, _, q185, rfl⟩
  · cases e
def f_X3_trade : Nat → Option Nat := fun k => match k with
  | 3 => some 2
  | _ => none
theorem fq_X3_16_tN : FQ RX3 16 f_X3_trade tN := by
  intro k j e
  unfold f_X3_trade at e
  split at e
  · cases e; exact ⟨fl_X3_16_3, rfl⟩
  · cases e
theorem fn_X3_init_16 : FN mX3_init 16 f_X3_trade := by
  intro k j e
  unfold f_X3_trade at e
  split at e
  · cases e; exact Or.inr ⟨rfl, rfl, rfl, _, q187, rfl⟩
  · cases e
def o_X3_init (w : Wd) (F : Nat) (x : Nat) (a1 : Int32) (a2 : Int32) (a3 : Int32) : M Unit :=
  zbd (zpI f_X3_number (some x) a1) fun _ =>
  zbd (zpI f_X3_cell (some x) a2) fun _ =>
  zbd (zpI f_X3_trade (some x) a3) fun _ =>
  zrt ()
theorem c_X3_init {w : Wd} {F : Nat} {x : Nat} {a1 : Int32} {a2 : Int32} {a3 : Int32} {h h1 : Hp} {y : Unit} {c s : Nat} (H : o_X3_init w F x a1 a2 a3 h = some (y, h1, c, s)) : Con w mX3_init cX3_init 1 c s [.ref x, .int a1, .int a2, .int a3] h (Ro (oU y) h1) := by
  unfold o_X3_init at H
  refine Con.of (ls := [some (va_rf (some x)), some (.int a1), some (.int a2), some (.int a3)]) (by decide +kernel) rfl rfl ?_
  refine V_aload0 eX3_init_0 (zrf_rf _) ?_
  refine V_objectinit eX3_init_1 q179 q180 q181 rfl rfl ?_
  refine V_aload0 eX3_init_4 (zrf_rf _) ?_
  refine V_iload1 eX3_init_5 ?_
  refine D_pI eX3_init_6 fq_X3_7_tN fn_X3_init_7 H (fun h H => ?_)
  refine V_aload0 eX3_init_9 (zrf_rf _) ?_
  refine V_iload2 eX3_init_10 ?_
  refine D_pI eX3_init_11 fq_X3_13_tN fn_X3_init_13 H (fun h H => ?_)
  refine V_aload0 eX3_init_14 (zrf_rf _) ?_
  refine V_iload3 eX3_init_15 ?_
  refine D_pI eX3_init_16 fq_X3_16_tN fn_X3_init_16 H (fun h H => ?_)
  obtain ⟨rfl, rfl, rfl, rfl⟩ := zrt_ok H
  exact V_return (x := ()) eX3_init_19 rfl ⟨rfl, rfl⟩
def f_X0_towns : Nat → Option Nat := fun k => match k with
  | 0 => some 2
  | _ => none
theorem fq_X0_28_tR : FQ RX0 28 f_X0_towns tR := by
  intro k j e
  unfold f_X0_towns at e
  split at e
  · cases e; exact ⟨fl_X0_28_0, Or.inl ⟨_, rfl⟩⟩
  · cases e
def y_X3 : Nat → Bool := fun k => match k with
  | 3 => true
  | _ => false
theorem y_X3_ok : ∀ k, y_X3 k = true → zok k = true ∧ ((zcl k).1 = "LinesPromised$Town" ∨ Cond.castable (zcl k).1 "LinesPromised$Town" ∈ lw_tbl) := by
  intro k e
  unfold y_X3 at e
  split at e
  · exact ⟨by decide, Or.inl rfl⟩
  · cases e
theorem fq_X0_44_tI : FQ RX0 44 f_X3_cell tI := by
  intro k j e
  unfold f_X3_cell at e
  split at e
  · cases e; exact ⟨fl_X0_44_3, Or.inl rfl⟩
  · cases e
def B_X0_town_24 (w : Wd) (F : Nat) (k24 : Int32 → M Int32) (x : Nat) (a1 : Int32) (a2 : Int32) (a3 : Int32) : M Int32 :=
  zbd (zgR f_X0_towns (some x)) fun v3 =>
  zbd (zv1 30 v3 (fun a => o_J2_size w F a)) fun v4 =>
  zif (v4 ≤ a3) (zbd (zgR f_X0_towns (some x)) fun v5 =>
  zbd (zv1 30 v5 (fun a => o_J2_size w F a)) fun v6 =>
  zif (v6 = (6 : Int32)) (zrt (-4 : Int32))
  (zbd (zgR f_X0_towns (some x)) fun v7 =>
  zbd (znw 3 0 3) fun n8 =>
  zbd (zgR f_X0_towns (some x)) fun v9 =>
  zbd (zv1 30 v9 (fun a => o_J2_size w F a)) fun v10 =>
  zbd (znn n8 (fun a => o_X3_init w F a v10 a1 a2)) fun _ =>
  zbd (zv1 30 v7 (fun a => o_J2_add w F a n8)) fun v12 =>
  zbd (zgR f_X0_towns (some x)) fun v13 =>
  zbd (zv1 30 v13 (fun a => o_J2_size w F a)) fun v14 =>
  zrt (v14 - (1 : Int32))))
  (zbd (zgR f_X0_towns (some x)) fun v15 =>
  zbd (zv1 30 v15 (fun a => o_J2_get w F a a3)) fun v16 =>
  zbd (zcc y_X3 v16) fun _ =>
  zbd (zgI f_X3_cell v16) fun v17 =>
  zif (v17 = a1) (zrt (-3 : Int32))
  (k24 (a3 + (1 : Int32))))
def d_X0_town_24 (w : Wd) (F : Nat) (x : Nat) (a1 : Int32) (a2 : Int32) : Nat → Int32 → M Int32
  | 0, _ => zno
  | n + 1, a3 => B_X0_town_24 w F (d_X0_town_24 w F x a1 a2 n) x a1 a2 a3
def o_X0_town (w : Wd) (F : Nat) (x : Nat) (a1 : Int32) (a2 : Int32) : M Int32 :=
  zbd (o_X0_isCell w F a1) fun v1 =>
  zif (v1 = 0) (zrt (-1 : Int32))
  (zbd (o_X0_in w F a2 (0 : Int32) (99 : Int32)) fun v2 =>
  zif (v2 = 0) (zrt (-2 : Int32))
  (d_X0_town_24 w F x a1 a2 F (0 : Int32)))
theorem bB_X0_town_24 {w : Wd} {F : Nat} {k24 : Int32 → M Int32} {x : Nat} {a1 : Int32} {a2 : Int32} (hk24 : ∀ (a3 : Int32) (h : Hp) (y : Int32) (h1 : Hp) (c s : Nat), k24 a3 h = some (y, h1, c, s) → V w mX0_town cX0_town 7 c s h 24 [some (va_rf (some x)), some (.int a1), some (.int a2), some (.int a3)] [] (Ro (oI y) h1)) {a3 : Int32} {h h1 : Hp} {y : Int32} {c s : Nat} (H : B_X0_town_24 w F k24 x a1 a2 a3 h = some (y, h1, c, s)) : V w mX0_town cX0_town 7 c s h 24 [some (va_rf (some x)), some (.int a1), some (.int a2), some (.int a3)] [] (Ro (oI y) h1) := by
  unfold B_X0_town_24 at H
  refine V_iload3 eX0_town_24 ?_
  refine V_aload0 eX0_town_25 (zrf_rf _) ?_
  refine D_gR eX0_town_26 fq_X0_28_tR H (fun v3 H => ?_)
  refine D_callI (pc' := 32) (st := [.int a3]) H (fun v h' c1 s1 e cb sb k => ?_) (fun v4 h c s H => ?_)
  · obtain ⟨a, hr, ha, hk, e9⟩ := zv1_ok e
    cases hr
    exact V_invokevirtual (k := 30) eX0_town_29 lmJ2_size q156 q157 rfl rfl q158 ha hk (c_J2_size e9) (hRet_oI _ _) rfl rfl rfl rfl (kOI k)
  refine V_if_icmpge eX0_town_32 (fun q => ?_) (fun q => ?_)
  · have H := zif_t q H
    refine V_aload0 eX0_town_62 (zrf_rf _) ?_
    refine D_gR eX0_town_63 fq_X0_28_tR H (fun v5 H => ?_)
    refine D_callI (pc' := 69) (st := []) H (fun v h' c1 s1 e cb sb k => ?_) (fun v6 h c s H => ?_)
    · obtain ⟨a, hr, ha, hk, e9⟩ := zv1_ok e
      cases hr
      exact V_invokevirtual (k := 30) eX0_town_66 lmJ2_size q156 q157 rfl rfl q158 ha hk (c_J2_size e9) (hRet_oI _ _) rfl rfl rfl rfl (kOI k)
    refine V_bipush (v := 6) (by decide) eX0_town_69 ?_
    refine V_if_icmpne eX0_town_71 (fun q => ?_) (fun q => ?_)
    · have H := zif_f q H
      refine V_aload0 eX0_town_77 (zrf_rf _) ?_
      refine D_gR eX0_town_78 fq_X0_28_tR H (fun v7 H => ?_)
      refine D_new (g := 0) eX0_town_81 nl_X0_42 rfl H (fun n8 h c s H => ?_)
      refine V_dup (zcr _) eX0_town_84 ?_
      refine V_aload0 eX0_town_85 (zrf_rf _) ?_
      refine D_gR eX0_town_86 fq_X0_28_tR H (fun v9 H => ?_)
      refine D_callI (pc' := 92) (st := [va_rf n8, va_rf n8, va_rf v7]) H (fun v h' c1 s1 e cb sb k => ?_) (fun v10 h c s H => ?_)
      · obtain ⟨a, hr, ha, hk, e9⟩ := zv1_ok e
        cases hr
        exact V_invokevirtual (k := 30) eX0_town_89 lmJ2_size q156 q157 rfl rfl q158 ha hk (c_J2_size e9) (hRet_oI _ _) rfl rfl rfl (by simp only [List.map_cons, List.map_nil, zcr]; rfl) (kOI k)
      refine V_iload1 eX0_town_92 ?_
      refine V_iload2 eX0_town_93 ?_
      refine D_callU (pc' := 97) (st := [va_rf n8, va_rf v7]) H (fun v h' c1 s1 e cb sb k => ?_) (fun v11 h c s H => ?_)
      · obtain ⟨a, hr, e9⟩ := znn_ok e
        cases hr
        exact V_invokeinit eX0_town_94 lmX3_init rfl rfl q176 q177 (c_X3_init e9) (hRet_oU _ _) rfl rfl rfl (by simp only [List.map_cons, List.map_nil, zcr]; rfl) (kOU k)
      refine D_callI (pc' := 100) (st := []) H (fun v h' c1 s1 e cb sb k => ?_) (fun v12 h c s H => ?_)
      · obtain ⟨a, hr, ha, hk, e9⟩ := zv1_ok e
        cases hr
        exact V_invokevirtual (k := 30) eX0_town_97 lmJ2_add q196 q197 rfl rfl q198 ha hk (c_J2_add e9) (hRet_oI _ _) rfl rfl rfl rfl (kOI k)
      refine V_pop rfl eX0_town_100 ?_
      refine V_aload0 eX0_town_101 (zrf_rf _) ?_
      refine D_gR eX0_town_102 fq_X0_28_tR H (fun v13 H => ?_)
      refine D_callI (pc' := 108) (st := []) H (fun v h' c1 s1 e cb sb k => ?_) (fun v14 h c s H => ?_)
      · obtain ⟨a, hr, ha, hk, e9⟩ := zv1_ok e
        cases hr
        exact V_invokevirtual (k := 30) eX0_town_105 lmJ2_size q156 q157 rfl rfl q158 ha hk (c_J2_size e9) (hRet_oI _ _) rfl rfl rfl rfl (kOI k)
      refine V_iconst (v := 1) (by decide) eX0_town_108 ?_
      refine V_isub eX0_town_109 ?_
      obtain ⟨rfl, rfl, rfl, rfl⟩ := zrt_ok H
      exact V_ireturn eX0_town_110 rfl ⟨rfl, rfl⟩
    · have H := zif_t q H
      refine V_bipush (v := -4) (by decide) eX0_town_74 ?_
      obtain ⟨rfl, rfl, rfl, rfl⟩ := zrt_ok H
      exact V_ireturn eX0_town_76 rfl ⟨rfl, rfl⟩
  · have H := zif_f q H
    refine V_aload0 eX0_town_35 (zrf_rf _) ?_
    refine D_gR eX0_town_36 fq_X0_28_tR H (fun v15 H => ?_)
    refine V_iload3 eX0_town_39 ?_
    refine D_callR (pc' := 43) (st := []) H (fun v h' c1 s1 e cb sb k => ?_) (fun v16 h c s H => ?_)
    · obtain ⟨a, hr, ha, hk, e9⟩ := zv1_ok e
      cases hr
      exact V_invokevirtual (k := 30) eX0_town_40 lmJ2_get q160 q161 rfl rfl q162 ha hk (c_J2_get e9) (hRet_oR _ _) rfl rfl rfl rfl (kOR k)
    refine D_cast eX0_town_43 q174 y_X3_ok H (fun H => ?_)
    refine D_gI eX0_town_46 fq_X0_44_tI H (fun v17 H => ?_)
    refine V_iload1 eX0_town_49 ?_
    refine V_if_icmpne eX0_town_50 (fun q => ?_) (fun q => ?_)
    · have H := zif_f q H
      refine V_iinc3 rfl eX0_town_56 rfl (v := 1) (by decide) ?_
      refine V_goto eX0_town_59 ?_
      exact V_fg2 (hk24 _ _ _ _ _ _ H) (zfg_k (zfg_k (zfg_k (zfg_k zfg_e))))
    · have H := zif_t q H
      refine V_bipush (v := -3) (by decide) eX0_town_53 ?_
      obtain ⟨rfl, rfl, rfl, rfl⟩ := zrt_ok H
      exact V_ireturn eX0_town_55 rfl ⟨rfl, rfl⟩
theorem b_X0_town_24 {w : Wd} {F : Nat} {x : Nat} {a1 : Int32} {a2 : Int32} : ∀ (n : Nat) (a3 : Int32) (h : Hp) (y : Int32) (h1 : Hp) (c s : Nat), d_X0_town_24 w F x a1 a2 n a3 h = some (y, h1, c, s) → V w mX0_town cX0_town 7 c s h 24 [some (va_rf (some x)), some (.int a1), some (.int a2), some (.int a3)] [] (Ro (oI y) h1) := by
  intro n
  induction n with
  | zero => intro a3 h y h1 c s H; exact zno_no H
  | succ n ih => intro a3 h y h1 c s H; exact bB_X0_town_24 ih H
theorem c_X0_town {w : Wd} {F : Nat} {x : Nat} {a1 : Int32} {a2 : Int32} {h h1 : Hp} {y : Int32} {c s : Nat} (H : o_X0_town w F x a1 a2 h = some (y, h1, c, s)) : Con w mX0_town cX0_town 7 c s [.ref x, .int a1, .int a2] h (Ro (oI y) h1) := by
  unfold o_X0_town at H
  refine Con.of (ls := [some (va_rf (some x)), some (.int a1), some (.int a2), none]) (by decide +kernel) rfl rfl ?_
  refine V_iload1 eX0_town_0 ?_
  refine D_callI (pc' := 4) (st := []) H (fun v h' c1 s1 e cb sb k => ?_) (fun v1 h c s H => ?_)
  · exact V_invokestatic eX0_town_1 lmX0_isCell q146 q147 (c_X0_isCell e) (hRet_oI _ _) rfl rfl rfl rfl (kOI k)
  refine V_ifne eX0_town_4 (fun q => ?_) (fun q => ?_)
  · have H := zif_f q H
    refine V_iload2 eX0_town_9 ?_
    refine V_iconst (v := 0) (by decide) eX0_town_10 ?_
    refine V_bipush (v := 99) (by decide) eX0_town_11 ?_
    refine D_callI (pc' := 16) (st := []) H (fun v h' c1 s1 e cb sb k => ?_) (fun v2 h c s H => ?_)
    · exact V_invokestatic eX0_town_13 lmX0_in q149 q150 (c_X0_in e) (hRet_oI _ _) rfl rfl rfl rfl (kOI k)
    refine V_ifne eX0_town_16 (fun q => ?_) (fun q => ?_)
    · have H := zif_f q H
      refine V_iconst (v := 0) (by decide) eX0_town_22 ?_
      refine V_istore3 rfl eX0_town_23 rfl ?_
      exact V_fg2 (b_X0_town_24 _ _ _ _ _ _ _ H) (zfg_k (zfg_k (zfg_k (zfg_k zfg_e))))
    · have H := zif_t q H
      refine V_bipush (v := -2) (by decide) eX0_town_19 ?_
      obtain ⟨rfl, rfl, rfl, rfl⟩ := zrt_ok H
      exact V_ireturn eX0_town_21 rfl ⟨rfl, rfl⟩
  · have H := zif_t q H
    refine V_iconst (v := -1) (by decide) eX0_town_7 ?_
    obtain ⟨rfl, rfl, rfl, rfl⟩ := zrt_ok H
    exact V_ireturn eX0_town_8 rfl ⟨rfl, rfl⟩
