/-- as Con.of, for a method of a class that has natives -/
theorem Con.ofF {w : Wd} {mi : Mi} {cc : ByteArray} {L cb sb : Nat} {args : List Value} {h : Hp} {Q : Outcome → Hp → Prop} {ls : List (Option Value)} (hy : plainFor mi.1 = true) (hn : Nat.ble (lg_sl args).length mi.2.1 = true) (hls : zar args ++ List.replicate (mi.2.1 - (zar args).length) none = ls)
    (k : V w mi cc L cb sb h 0 ls [] Q) : Con w mi cc L cb sb args h Q := by
  intro l
  refine MetFree.of_bodySF (code := cc) (maxLocals := mi.2.1) (ret := mi.2.2.1) hy ?_ ?_
  · intro a s m hp hnm
    have h0 := atoms_spec hp _ List.mem_cons_self
    by_cases hh : mi.2.2.2 = []
    · rw [if_pos hh] at h0
      obtain ⟨meth, c, h1, h2, h3, h4, h5, h6, -, -⟩ := Cond.code_spec hnm h0
      exact ⟨meth, c, h1, h2, h3, h4, h5, h6⟩
    · rw [if_neg hh] at h0
      obtain ⟨m9, meth, c, hn9, h1, h2, h3, h4, -, h5, h6, -⟩ := Cond.codeWith_spec h0
      cases hnm.symm.trans hn9
      exact ⟨meth, c, h1, h2, h3, h4, h5, h6⟩
  · intro p e s m a below meth c s₁ B hml hP _
    obtain ⟨rfl, hK, hH⟩ := hP
    have hh0 : s₁.heap = s.heap := by rw [B.state]; rfl
    have htb : c.exceptionTable.toList.map (fun h => (h.startPc, h.endPc, h.handlerPc, h.catchType)) = mi.2.2.2 := by
      have h0 := atoms_spec B.pre _ List.mem_cons_self
      by_cases hh : mi.2.2.2 = []
      · rw [if_pos hh] at h0
        have h1 := B.noHandlers h0
        rw [hh]
        have h2 : c.exceptionTable = #[] := by simpa using h1
        rw [h2]; rfl
      · rw [if_neg hh] at h0
        obtain ⟨m9, meth9, c9, hn9, h1, h2, -, -, h5, -⟩ := Cond.codeWith_spec h0
        cases B.named.symm.trans hn9
        cases B.method.symm.trans h1
        cases (Stand.of_body B).code.symm.trans h2
        exact h5
    have hl0 := lv_entry args (n := mi.2.1) (Nat.le_of_ble_eq_true hn)
    have F : Fx w mi cc p s m meth c := ⟨B.exec, B.bytes, hml, B.returns, B.notSynchronized, findClass_of_methodNamed B.named, (name_of_methodNamed B.named B.method).1, hK, htb⟩
    have hl : zls ((lg_sl args ++ List.replicate (mi.2.1 - (lg_sl args).length) Slot.unset).toArray) mi.2.1 ls := by
      refine zls.sub hl0 fun i v hi => ?_
      rw [← hls] at hi
      have h1 : (zar args)[i]? = some (some v) := by
        by_cases hlt : i < (zar args).length
        · rwa [List.getElem?_append_left hlt] at hi
        · rw [List.getElem?_append_right (by omega), List.getElem?_replicate] at hi
          split at hi <;> cases hi
      have := zar_args args 0 i v h1
      rwa [Nat.zero_add] at this
    have hw := k p l e (headSpec ((if mi.2.2.2 = [] then Cond.code mi.1 cc mi.2.1 mi.2.2.1 else Cond.codeWith mi.1 cc mi.2.1 mi.2.2.1 mi.2.2.2) :: lw_all) { frames := L, cells := cb, slots := sb, locals := 64 * L }).room s m args.toArray below meth c s.heap [] 0 0 _ F hH (fun q hq => by cases hq) (Nat.le_refl _) (Nat.le_refl _) (by show 0 + cb ≤ cb; omega) (by show 0 + sb ≤ sb; omega) hl
    rw [← lg_entry_eq] at hw
    obtain ⟨t, a1, o, b1, b2, b3, b4, b5⟩ := hw s₁ hh0 (Stand.of_body B)
    exact ⟨t, o, a1, b1, b2, b3, b4, b5⟩
/-! Math -/
theorem c_max {w : Wd} {h : Hp} (a b : Int32) : Con w mJ6_max cJ6_max 0 0 0 [.int a, .int b] h (Rv (.int (if a < b then b else a)) h) := by
  refine Con.ofF (by decide +kernel) rfl rfl ?_
  show V w mJ6_max cJ6_max 0 0 0 _ 0 [some (.int a), some (.int b)] [] _
  refine V_iload0 eJ6_max_0 ?_
  refine V_iload1 eJ6_max_1 ?_
  refine V_if_icmplt eJ6_max_2 (fun c => ?_) (fun c => ?_)
  · refine V_iload1 eJ6_max_9 ?_
    exact V_ireturn eJ6_max_10 rfl ⟨by rw [if_pos c], rfl⟩
  · refine V_iload0 eJ6_max_5 ?_
    refine V_goto eJ6_max_6 ?_
    exact V_ireturn eJ6_max_10 rfl ⟨by rw [if_neg c], rfl⟩
theorem c_min {w : Wd} {h : Hp} (a b : Int32) : Con w mJ6_min cJ6_min 0 0 0 [.int a, .int b] h (Rv (.int (if b < a then b else a)) h) := by
  refine Con.ofF (by decide +kernel) rfl rfl ?_
  show V w mJ6_min cJ6_min 0 0 0 _ 0 [some (.int a), some (.int b)] [] _
  refine V_iload0 eJ6_min_0 ?_
  refine V_iload1 eJ6_min_1 ?_
  refine V_if_icmpgt eJ6_min_2 (fun c => ?_) (fun c => ?_)
  · refine V_iload1 eJ6_min_9 ?_
    exact V_ireturn eJ6_min_10 rfl ⟨by rw [if_pos c], rfl⟩
  · refine V_iload0 eJ6_min_5 ?_
    refine V_goto eJ6_min_6 ?_
    exact V_ireturn eJ6_min_10 rfl ⟨by rw [if_neg c], rfl⟩
theorem c_abs {w : Wd} {h : Hp} (a : Int32) : Con w mJ6_abs cJ6_abs 0 0 0 [.int a] h (Rv (.int (if 0 ≤ a then a else -a)) h) := by
  refine Con.ofF (by decide +kernel) rfl rfl ?_
  show V w mJ6_abs cJ6_abs 0 0 0 _ 0 [some (.int a)] [] _
  refine V_iload0 eJ6_abs_0 ?_
  refine V_ifge eJ6_abs_1 (fun c => ?_) (fun c => ?_)
  · refine V_iload0 eJ6_abs_9 ?_
    exact V_ireturn eJ6_abs_10 rfl ⟨by rw [if_pos c], rfl⟩
  · refine V_iload0 eJ6_abs_4 ?_
    refine V_ineg eJ6_abs_5 ?_
    refine V_goto eJ6_abs_6 ?_
    exact V_ireturn eJ6_abs_10 rfl ⟨by rw [if_neg c], rfl⟩
