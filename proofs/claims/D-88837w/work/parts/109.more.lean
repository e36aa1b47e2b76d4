theorem dfX0 : ∀ j, j < 27 → defaultValue (tyX0 j) = zfv (tyX0 j) 0 0 none := by decide +kernel
theorem dfX1 : ∀ j, j < 5 → defaultValue (tyX1 j) = zfv (tyX1 j) 0 0 none := by decide +kernel
theorem dfX2 : ∀ j, j < 21 → defaultValue (tyX2 j) = zfv (tyX2 j) 0 0 none := by decide +kernel
theorem dfX3 : ∀ j, j < 3 → defaultValue (tyX3 j) = zfv (tyX3 j) 0 0 none := by decide +kernel
theorem dfX4 : ∀ j, j < 2 → defaultValue (tyX4 j) = zfv (tyX4 j) 0 0 none := by decide +kernel
theorem dfX5 : ∀ j, j < 7 → defaultValue (tyX5 j) = zfv (tyX5 j) 0 0 none := by decide +kernel
theorem dfX6 : ∀ j, j < 3 → defaultValue (tyX6 j) = zfv (tyX6 j) 0 0 none := by decide +kernel
theorem dfX8 : ∀ j, j < 1 → defaultValue (tyX8 j) = zfv (tyX8 j) 0 0 none := by decide +kernel
theorem dfX9 : ∀ j, j < 3 → defaultValue (tyX9 j) = zfv (tyX9 j) 0 0 none := by decide +kernel
theorem dfX10 : ∀ j, j < 2 → defaultValue (tyX10 j) = zfv (tyX10 j) 0 0 none := by decide +kernel
theorem dfX11 : ∀ j, j < 2 → defaultValue (tyX11 j) = zfv (tyX11 j) 0 0 none := by decide +kernel
theorem dfX13 : ∀ j, j < 12 → defaultValue (tyX13 j) = zfv (tyX13 j) 0 0 none := by decide +kernel
theorem dfX15 : ∀ j, j < 17 → defaultValue (tyX15 j) = zfv (tyX15 j) 0 0 none := by decide +kernel
theorem dfX16 : ∀ j, j < 7 → defaultValue (tyX16 j) = zfv (tyX16 j) 0 0 none := by decide +kernel
theorem dfX17 : ∀ j, j < 4 → defaultValue (tyX17 j) = zfv (tyX17 j) 0 0 none := by decide +kernel
theorem dfX18 : ∀ j, j < 18 → defaultValue (tyX18 j) = zfv (tyX18 j) 0 0 none := by decide +kernel
theorem dfX19 : ∀ j, j < 3 → defaultValue (tyX19 j) = zfv (tyX19 j) 0 0 none := by decide +kernel
theorem dfX20 : ∀ j, j < 5 → defaultValue (tyX20 j) = zfv (tyX20 j) 0 0 none := by decide +kernel
theorem dfX21 : ∀ j, j < 5 → defaultValue (tyX21 j) = zfv (tyX21 j) 0 0 none := by decide +kernel
theorem dfX22 : ∀ j, j < 6 → defaultValue (tyX22 j) = zfv (tyX22 j) 0 0 none := by decide +kernel
theorem dfX23 : ∀ j, j < 7 → defaultValue (tyX23 j) = zfv (tyX23 j) 0 0 none := by decide +kernel
theorem dfX24 : ∀ j, j < 22 → defaultValue (tyX24 j) = zfv (tyX24 j) 0 0 none := by decide +kernel
theorem dfX26 : ∀ j, j < 1 → defaultValue (tyX26 j) = zfv (tyX26 j) 0 0 none := by decide +kernel
theorem dfX27 : ∀ j, j < 1 → defaultValue (tyX27 j) = zfv (tyX27 j) 0 0 none := by decide +kernel
theorem dfX28 : ∀ j, j < 1 → defaultValue (tyX28 j) = zfv (tyX28 j) 0 0 none := by decide +kernel
theorem dfJ2 : ∀ j, j < 3 → defaultValue (tyJ2 j) = zfv (tyJ2 j) 0 0 none := by decide +kernel
theorem zcl_df {k : Nat} (h : zok k = true) : ∀ j, j < (zcl k).2.2 → defaultValue (zty k j) = zfv (zty k j) 0 0 none := by
  unfold zok at h
  split at h
  · exact dfX0
  · exact dfX1
  · exact dfX2
  · exact dfX3
  · exact dfX4
  · exact dfX5
  · exact dfX6
  · exact dfX8
  · exact dfX9
  · exact dfX10
  · exact dfX11
  · exact dfX13
  · exact dfX15
  · exact dfX16
  · exact dfX17
  · exact dfX18
  · exact dfX19
  · exact dfX20
  · exact dfX21
  · exact dfX22
  · exact dfX23
  · exact dfX24
  · exact dfX26
  · exact dfX27
  · exact dfX28
  · exact dfJ2
  · exact absurd h (by decide)
theorem W.mono {p : Program} {l : Launch} {e : Env} {R : Room} {s : State} {m : MethodId} {args : Array Value} {below : List Frame} {meth : Method} {c : Code} {H : Heap} {locs : List Loc} {cells slots : Nat} {Q Q' : State → Prop} {g : JFrame} (h : W p l e R s m args below meth c H locs cells slots Q g) (k : ∀ t, Q t → Q' t) : W p l e R s m args below meth c H locs cells slots Q' g := fun T hT X => by
  obtain ⟨t, a, b⟩ := h T hT X
  exact ⟨t, a, k t b⟩
theorem zkd_g {κ g : Nat} (h : Nat.blt κ 1000 = true) : zkd (κ + 1000 * g) = κ := by
  have := Nat.le_of_ble_eq_true h
  unfold zkd
  omega
section MORE
variable {w : Wd} {mi : Mi} {cc : ByteArray} {L cb sb : Nat} {h : Hp} {pc pc' idx k : Nat} {ls : List (Option Value)} {st : List Value} {Q : Outcome → Hp → Prop}
def NL (own : String) (idx k : Nat) : Prop := zok k = true ∧ Cond.classLink own idx (zcl k).1 ∈ lw_all ∧ Cond.instantiable (zcl k).1 (zcl k).2.2 ∈ lw_all ∧ Cond.initialized (zcl k).1 ∈ lw_all
theorem V_new (g : Nat) {n : Nat} (d : Dc cc pc (.new idx) 3 pc') (nl : NL mi.1.cls idx k) (hn : (zcl k).2.2 = n) (kk : V w mi cc L cb sb (nw h (k + 1000 * g) 0) pc' ls (.ref (hZ h) :: st) Q) : V w mi cc L (cb + 1) (sb + n) h pc ls st Q := by
  obtain ⟨d, rfl⟩ := d
  intro p l e R s m args below meth c H locs cells slots lsA F a1 a2 a3 a4 a5 a6 hl
  obtain ⟨f1, f2, -, -, -, f6, -, hK, -⟩ := id F
  obtain ⟨g1, g2, g3, g4⟩ := nl
  rw [hn] at g3
  have hKn := hK.2.2.1 k g1
  have hz : H.size = hZ h := a1.1
  refine W.newcK f1 f2 f6 (hK.hts args _ g2) (hK.hts args _ g3) (hK.hts args _ g4) rfl d (by omega) (by omega) hKn.2.1 hz fun H1 kC hkC e1 z1 o1 => ?_
  have hb := u_born (zty k) (hK.hts args) (zcl_in g1) hKn hkC e1 (zcl_ty g1)
  have hkk : zkd (hT (nw h (k + 1000 * g) 0) (hZ h)) = k := by
    rw [hT_nws]
    exact zkd_g (by have := zok_lt g1; exact Nat.ble_eq_true_of_le (by omega))
  refine kk p l e R s m args below meth c H1 locs (cells + 1) (slots + n) lsA F (a1.new z1 o1 ?_) a2 a3 a4 (by omega) (by omega) hl
  have h40 := zok_lt g1
  refine ⟨fun _ => ?_, fun h1 => ?_, fun h1 => ?_⟩
  · rw [hkk]
    refine ⟨g1, a1.2.1, ?_⟩
    refine hb.to fun j hj => ?_
    rw [hI_nws, hL_nws, hR_nws]
    exact zcl_df g1 j hj
  · rw [hkk] at h1; omega
  · rw [hkk] at h1; omega
theorem V_newarray (κ g : Nat) {c N : Nat} {at' : ArrayType} {n : Int32} (d : Dc cc pc (.newarray at') 2 pc') (hc : zak κ = some c) (hm : Nat.blt κ 650 = true) (hat : newarray.typeOf at' = zat c) (hw : Cond.arrayClass (zat c) ∈ lw_all) (hdv : defaultValue (zat c) = zfv (zat c) 0 0 none) (hn : ¬ n < 0) (hN : n.toNatClampNeg = N) (hby : N * componentBytes (zat c) ≤ 536870912) (kk : V w mi cc L cb sb (nw h (κ + 1000 * g) N) pc' ls (.ref (hZ h) :: st) Q) : V w mi cc L (cb + 1) (sb + N) h pc ls (.int n :: st) Q := by
  obtain ⟨d, rfl⟩ := d
  intro p l e R s m args below meth c1 H locs cells slots lsA F a1 a2 a3 a4 a5 a6 hl
  obtain ⟨f1, f2, -, -, -, f6, -, hK, -⟩ := id F
  subst hN
  have hz : H.size = hZ h := a1.1
  have hm' : κ < 650 := Nat.le_of_ble_eq_true hm
  refine W.newa f1 f2 (by rw [hat]; exact hK.hts args _ hw) rfl d rfl hn (by rw [hat]; exact hby) (by omega) (by omega) fun cA kA comp h1 h2 h3 => ?_
  have hcA : cA = w.A c := by
    have := (hK.2.2.2.1 c (zak_lt hc)).1
    rw [hat] at h1
    exact Option.some.inj (h1.symm.trans this)
  subst hcA
  rw [hat, hdv, arrV_new]
  have hkk : zkd (hT (nw h (κ + 1000 * g) n.toNatClampNeg) (hZ h)) = κ := by
    rw [hT_nws]
    exact zkd_g (Nat.ble_eq_true_of_le (by omega))
  have e := kk p l e R s m args below meth c1 (H.push (arrV (w.A c) n.toNatClampNeg fun _ => zfv (zat c) 0 0 none)) locs (cells + 1) (slots + n.toNatClampNeg) lsA F (a1.new (by rw [Array.size_push, hz]) (fun q hq => by rw [Array.getElem?_push_lt (by omega)]; exact (Array.getElem?_eq_getElem (by omega)).symm) ?_) a2 a3 a4 (by omega) (by omega) hl
  · rw [← hz] at e
    exact e
  · have hab : zAB w c (nw h (κ + 1000 * g) n.toNatClampNeg) (H.push (arrV (w.A c) n.toNatClampNeg fun _ => zfv (zat c) 0 0 none)) (hZ h) := by
      unfold zAB
      rw [hN_nws, hI_nws, hL_nws, hR_nws, ← hz, Array.getElem?_push_size]
    refine ⟨fun h1 => ?_, fun h1 h2 => ?_, fun h1 => ?_⟩
    · rw [hkk] at h1
      unfold zak at hc
      rw [if_neg (by omega)] at hc
      cases hc
    · rw [hkk] at h1 h2 ⊢
      unfold zak at hc
      rw [if_pos h1, if_pos h2] at hc
      cases hc
      exact ⟨a1.2.1, hab⟩
    · rw [hkk] at h1
      omega
theorem V_anewarray (κ g : Nat) {c N : Nat} {n : Int32} (d : Dc cc pc (.anewarray idx) 3 pc') (hc : zak κ = some c) (hm : Nat.blt κ 650 = true) (hw : ((∃ C, zat c = .object C ∧ Cond.classLink mi.1.cls idx C ∈ lw_all) ∨ (∃ t, zat c = .array t ∧ Cond.classLink mi.1.cls idx (FieldType.array t).toString ∈ lw_all))) (hov : ∀ s, Kn w s → ∀ args : Array Value, (Cond.arrayOver (zat c)).before args s = true) (hn : ¬ n < 0) (hN : n.toNatClampNeg = N) (hby : N * 4 ≤ 536870912) (kk : V w mi cc L cb sb (nw h (κ + 1000 * g) N) pc' ls (.ref (hZ h) :: st) Q) : V w mi cc L (cb + 1) (sb + N) h pc ls (.int n :: st) Q := by
  obtain ⟨d, rfl⟩ := d
  intro p l e R s m args below meth c1 H locs cells slots lsA F a1 a2 a3 a4 a5 a6 hl
  obtain ⟨f1, f2, -, -, -, f6, -, hK, -⟩ := id F
  subst hN
  have hz : H.size = hZ h := a1.1
  have hm' : κ < 650 := Nat.le_of_ble_eq_true hm
  have hkk : zkd (hT (nw h (κ + 1000 * g) n.toNatClampNeg) (hZ h)) = κ := by
    rw [hT_nws]
    exact zkd_g (Nat.ble_eq_true_of_le (by omega))
  have hdv : zfv (zat c) 0 0 none = .null := by
    rcases hw with ⟨C, e1, -⟩ | ⟨t, e1, -⟩ <;> rw [e1] <;> rfl
  have fin : W p l e R s m args below meth c1 (H.push { cls := w.A c, slots := Array.replicate n.toNatClampNeg .null, vm := .none }) locs (cells + 1) (slots + n.toNatClampNeg) (EQ w below s R Q) (F0 m (pc + 3) lsA (.ref H.size :: st)) := by
    rw [arrV_new]
    have e := kk p l e R s m args below meth c1 (H.push (arrV (w.A c) n.toNatClampNeg fun _ => .null)) locs (cells + 1) (slots + n.toNatClampNeg) lsA F (a1.new (by rw [Array.size_push, hz]) (fun q hq => by rw [Array.getElem?_push_lt (by omega)]; exact (Array.getElem?_eq_getElem (by omega)).symm) ?_) a2 a3 a4 (by omega) (by omega) hl
    · rw [← hz] at e
      exact e
    · have hab : zAB w c (nw h (κ + 1000 * g) n.toNatClampNeg) (H.push (arrV (w.A c) n.toNatClampNeg fun _ => .null)) (hZ h) := by
        unfold zAB
        rw [hN_nws, hI_nws, hL_nws, hR_nws, ← hz, Array.getElem?_push_size]
        show _ = some (arrV (w.A c) n.toNatClampNeg fun _ => zfv (zat c) 0 0 none)
        rw [hdv]
      refine ⟨fun h1 => ?_, fun h1 h2 => ?_, fun h1 => ?_⟩
      · rw [hkk] at h1
        unfold zak at hc
        rw [if_neg (by omega)] at hc
        cases hc
      · rw [hkk] at h1 h2 ⊢
        unfold zak at hc
        rw [if_pos h1, if_pos h2] at hc
        cases hc
        exact ⟨a1.2.1, hab⟩
      · rw [hkk] at h1
        omega
  have hfc := (hK.2.2.2.1 c (zak_lt hc)).1
  have hovs := hov s hK args
  rcases hw with ⟨C, e1, e2⟩ | ⟨t, e1, e2⟩
  · rw [e1] at hovs hfc
    refine W.anew f1 f2 f6 (hK.hts args _ e2) hovs rfl d rfl hn hby (by omega) (by omega) fun cA kA comp h1 h2 h3 h4 => ?_
    cases h1.symm.trans hfc
    exact fin
  · rw [e1] at hovs hfc
    refine W.anewA f1 f2 f6 (hK.hts args _ e2) hovs rfl d rfl hn hby (by omega) (by omega) fun cA kA comp h1 h2 h3 h4 => ?_
    cases h1.symm.trans hfc
    exact fin
theorem V_ldc {v : Int32} (d : Dc cc pc (.ldc idx) 2 pc') (hc : Cond.constant mi.1.cls idx v ∈ lw_all) (kk : V w mi cc L cb sb h pc' ls (.int v :: st) Q) : V w mi cc L cb sb h pc ls st Q := by
  obtain ⟨d, rfl⟩ := d
  exact V_pure (fun p l e R s m args below meth c H locs cells slots lsA Q' hx hb hl F kk => lv_ldc hx hb F.2.2.2.2.2.1 (F.2.2.2.2.2.2.2.1.hts args _ hc) d kk) kk
theorem V_ldc_w {v : Int32} (d : Dc cc pc (.ldc_w idx) 3 pc') (hc : Cond.constant mi.1.cls idx v ∈ lw_all) (kk : V w mi cc L cb sb h pc' ls (.int v :: st) Q) : V w mi cc L cb sb h pc ls st Q := by
  obtain ⟨d, rfl⟩ := d
  exact V_pure (fun p l e R s m args below meth c H locs cells slots lsA Q' hx hb hl F kk => lv_ldcw hx hb F.2.2.2.2.2.1 (F.2.2.2.2.2.2.2.1.hts args _ hc) d kk) kk
theorem V_ldc2_w {v : Int64} (d : Dc cc pc (.ldc2_w idx) 3 pc') (hc : Cond.constantLong mi.1.cls idx v ∈ lw_all) (kk : V w mi cc L cb sb h pc' ls (.long v :: st) Q) : V w mi cc L cb sb h pc ls st Q := by
  obtain ⟨d, rfl⟩ := d
  exact V_pure (fun p l e R s m args below meth c H locs cells slots lsA Q' hx hb hl F kk => lv_ldc2 hx hb F.2.2.2.2.2.1 (F.2.2.2.2.2.2.2.1.hts args _ hc) d kk) kk
theorem V_lcmp {x y : Int64} (d : Dc cc pc .lcmp 1 pc') (kk : V w mi cc L cb sb h pc' ls (.int (lg_cmp x y) :: st) Q) : V w mi cc L cb sb h pc ls (.long y :: .long x :: st) Q := by
  obtain ⟨d, rfl⟩ := d
  exact V_pure (fun p l e R s m args below meth c H locs cells slots lsA Q' hx hb hl F kk => W.lcmp hx hb d kk) kk
theorem V_tableswitch {lo : Int} {ts : List Nat} {td : Nat} {x : Int32} (d : Dt cc pc lo ts td) (kt : ∀ (i t : Nat), ts[i]? = some t → x.toInt = lo + (i : Int) → V w mi cc L cb sb h t ls st Q) (kd : (x.toInt < lo ∨ lo + (ts.length : Int) ≤ x.toInt) → V w mi cc L cb sb h td ls st Q) : V w mi cc L cb sb h pc ls (.int x :: st) Q := by
  obtain ⟨dflt, hi, offs, len, d, hh, ho, hd⟩ := d
  intro p l e R s m args below meth c H locs cells slots lsA F a1 a2 a3 a4 a5 a6 hl
  by_cases h1 : x.toInt < lo
  · exact lv_tableOut F.1 F.2.1 d (Or.inl h1) hd (kd (Or.inl h1) p l e R s m args below meth c H locs cells slots lsA F a1 a2 a3 a4 a5 a6 hl)
  · by_cases h2 : hi < x.toInt
    · exact lv_tableOut F.1 F.2.1 d (Or.inr h2) hd (kd (Or.inr (by omega)) p l e R s m args below meth c H locs cells slots lsA F a1 a2 a3 a4 a5 a6 hl)
    · have hlt : (x.toInt - lo).toNat < ts.length := by omega
      have hlen : offs.toList.length = ts.length := by
        have := congrArg List.length ho
        simpa using this
      have hoff : offs[(x.toInt - lo).toNat]? = some (offs.toList[(x.toInt - lo).toNat]'(by omega)) := by
        rw [← Array.getElem?_toList]
        exact List.getElem?_eq_getElem (by omega)
      have hts : ts[(x.toInt - lo).toNat]? = some (ts[(x.toInt - lo).toNat]) := List.getElem?_eq_getElem hlt
      have htg : (pc : Int) + offs.toList[(x.toInt - lo).toNat]'(by omega) = ((ts[(x.toInt - lo).toNat] : Nat) : Int) := by
        have := congrArg (fun (q : List Int) => q[(x.toInt - lo).toNat]?) ho
        simp only [List.getElem?_map, List.getElem?_eq_getElem hlt, List.getElem?_eq_getElem (show (x.toInt - lo).toNat < offs.toList.length by omega), Option.map_some, Option.some.injEq] at this
        exact this
      exact lv_tableIn F.1 F.2.1 d h1 h2 hoff htg (kt _ _ hts (by omega) p l e R s m args below meth c H locs cells slots lsA F a1 a2 a3 a4 a5 a6 hl)
/-! ends -/
theorem zend {p : Program} {l : Launch} {e : Env} {R : Room} {s : State} {m : MethodId} {args : Array Value} {below : List Frame} {meth : Method} {c : Code} {H : Heap} {locs : List Loc} {cells slots : Nat} {g : JFrame} (hc : cells ≤ R.cells) (hs : slots ≤ R.slots)
    (k : W p l e R s m args below meth c H locs cells slots (MQ below (fun _ _ o t => ∃ h', RelH w h' t.heap ∧ Q o h') args s cells slots (fun q => w.H.size ≤ q)) g) : W p l e R s m args below meth c H locs cells slots (EQ w below s R Q) g := by
  refine k.mono fun t ht => ?_
  obtain ⟨o, b1, b2, b3, K, ⟨-, b4, b5⟩, b6⟩ := ht
  exact ⟨o, b1, b2, b3, b4, K, b6, b5.mono hc hs⟩
theorem V_ireturn {x : Int32} (d : Dc cc pc .ireturn 1 pc') (hr : mi.2.2.1 = some .int) (q : Q (.returned (some (.int x))) h) : V w mi cc L cb sb h pc ls [.int x] Q := by
  obtain ⟨d, rfl⟩ := d
  intro p l e R s m args below meth c H locs cells slots lsA F a1 a2 a3 a4 a5 a6 hl
  obtain ⟨f1, f2, -, f4, f5, -⟩ := id F
  exact zend (by omega) (by omega) (W.iret f1 f2 (f4.trans hr) (fun t ht _ => ⟨h, by rw [ht]; exact a1, q⟩) a2 d f5)
theorem V_zreturn {x : Int32} (d : Dc cc pc .ireturn 1 pc') (hr : mi.2.2.1 = some .boolean) (hx : x = 0 ∨ x = 1) (q : Q (.returned (some (.int x))) h) : V w mi cc L cb sb h pc ls [.int x] Q := by
  obtain ⟨d, rfl⟩ := d
  intro p l e R s m args below meth c H locs cells slots lsA F a1 a2 a3 a4 a5 a6 hl
  obtain ⟨f1, f2, -, f4, f5, -⟩ := id F
  exact zend (by omega) (by omega) (W.zret f1 f2 (f4.trans hr) (by rcases hx with rfl | rfl <;> rfl) (fun t ht _ => ⟨h, by rw [ht]; exact a1, q⟩) a2 d f5)
theorem V_lreturn {x : Int64} (d : Dc cc pc .lreturn 1 pc') (hr : mi.2.2.1 = some .long) (q : Q (.returned (some (.long x))) h) : V w mi cc L cb sb h pc ls [.long x] Q := by
  obtain ⟨d, rfl⟩ := d
  intro p l e R s m args below meth c H locs cells slots lsA F a1 a2 a3 a4 a5 a6 hl
  obtain ⟨f1, f2, -, f4, f5, -⟩ := id F
  exact zend (by omega) (by omega) (W.lret f1 f2 (f4.trans hr) (fun t ht _ => ⟨h, by rw [ht]; exact a1, q⟩) a2 d f5)
theorem V_return {x : Unit} (d : Dc cc pc .return_ 1 pc') (hr : mi.2.2.1 = none) (q : Q (.returned none) h) : V w mi cc L cb sb h pc ls [] Q := by
  obtain ⟨d, rfl⟩ := d
  intro p l e R s m args below meth c H locs cells slots lsA F a1 a2 a3 a4 a5 a6 hl
  obtain ⟨f1, f2, -, f4, f5, -⟩ := id F
  exact zend (by omega) (by omega) (W.vret f1 f2 (f4.trans hr) (fun t ht _ => ⟨h, by rw [ht]; exact a1, q⟩) a2 d f5)
theorem V_areturn {r : Option Nat} {rt : FieldType} (d : Dc cc pc .areturn 1 pc') (hr : mi.2.2.1 = some rt) (hrt : (∃ n, rt = .object n) ∨ ∃ t, rt = .array t) (q : Q (.returned (some (va_rf r))) h) : V w mi cc L cb sb h pc ls [va_rf r] Q := by
  obtain ⟨d, rfl⟩ := d
  intro p l e R s m args below meth c H locs cells slots lsA F a1 a2 a3 a4 a5 a6 hl
  obtain ⟨f1, f2, -, f4, f5, -⟩ := id F
  exact zend (by omega) (by omega) (W.aret f1 f2 (f4.trans hr) hrt (by cases r with | none => exact Or.inl rfl | some a => exact Or.inr ⟨a, rfl⟩) (fun t ht _ => ⟨h, by rw [ht]; exact a1, q⟩) a2 d f5)
theorem V_athrow {a : Nat} {rest : List Value} (d : Dc cc pc .athrow 1 pc') (hh : mi.2.2.2 = []) (q : Q (.threw a) h) : V w mi cc L cb sb h pc ls (.ref a :: rest) Q := by
  obtain ⟨d, rfl⟩ := d
  intro p l e R s m args below meth c H locs cells slots lsA F a1 a2 a3 a4 a5 a6 hl
  obtain ⟨f1, f2, -, f4, f5, -, -, -, f9⟩ := id F
  intro T hT X
  have hno : c.exceptionTable.toList = [] := by
    rw [hh] at f9
    exact List.map_eq_nil_iff.mp f9
  obtain ⟨b1, b2, b3, b4, b5⟩ := X.athrowLeaves f1 (g := F0 m pc lsA (.ref a :: rest)) rfl rfl rfl (fun x hx => by rw [hno] at hx; cases hx) (a := a) (rest := rest) rfl (by rw [f2]; exact d) f5
  refine ⟨_, b1, .threw a, b2, b3, ⟨h, ?_, q⟩, b4, locs, a2, b5.mono (by omega) (by omega)⟩
  show RelH w h T.heap
  rw [hT]
  exact a1
end MORE
