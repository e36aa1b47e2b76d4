/-! statics, texts -/
theorem RelH.S {w : Wd} {h : Hp} {H : Heap} (r : RelH w h H) : ∀ a : Nat, a < w.H.size → ¬ w.H.size ≤ a → H[a]? = w.H[a]? := fun a ha _ => r.2.2.1.1 a ha
section ST
variable {w : Wd} {mi : Mi} {cc : ByteArray} {L cb sb : Nat} {h : Hp} {pc pc' idx : Nat} {ls : List (Option Value)} {st : List Value} {Q : Outcome → Hp → Prop}
theorem V_getstatic {C n d : String} {v : Value} (dd : Dc cc pc (.getstatic idx) 3 pc') (hz : (C, n, d, v) ∈ zst w) (l1 : Cond.fieldLink mi.1.cls idx C n d ∈ lw_all) (kk : V w mi cc L cb sb h pc' ls (v :: st) Q) : V w mi cc L cb sb h pc ls st Q := by
  obtain ⟨dd, rfl⟩ := dd
  intro p l e R s m args below meth c H locs cells slots lsA F a1 a2 a3 a4 a5 a6 hl
  have kw := kk p l e R s m args below meth c H locs cells slots lsA F a1 a2 a3 a4 a5 a6 hl
  obtain ⟨f1, f2, f3, -, -, f6, -, hK, -⟩ := id F
  obtain ⟨cf, kf, fi, f, a, cell, h1, h2, h3, h4, h5, h6, h7, h8⟩ := hK.2.2.2.2.2.1 _ hz
  exact W.gets f1 f2 f6 (hK.hts args _ l1) h1 h2 h3 h4 (by rw [a1.S a (Array.getElem?_eq_some_iff.mp h5).1 h8]; exact h5) (fun e => by rw [e] at h6; cases h6) h7 rfl dd kw
theorem V_ldcS {i : Nat} (hi : i < 7) (hm : mi.1.cls = RX2) (dd : Dc cc pc (.ldc (zsx i).1) 2 pc') (kk : V w mi cc L cb sb h pc' ls (.ref (w.K (10 + i)) :: st) Q) : V w mi cc L cb sb h pc ls st Q := by
  obtain ⟨dd, rfl⟩ := dd
  intro p l e R s m args below meth c H locs cells slots lsA F a1 a2 a3 a4 a5 a6 hl
  have kw := kk p l e R s m args below meth c H locs cells slots lsA F a1 a2 a3 a4 a5 a6 hl
  obtain ⟨f1, f2, f3, -, -, f6, -, hK, -⟩ := id F
  rw [hm] at f6
  exact va_ldcS f1 f2 f6 (hK.2.2.2.2.2.2.2.2 i hi).1 dd kw
theorem V_getSc {i : Nat} (hi : i < 7) (dd : Dc cc pc (.getfield idx) 3 pc') (l1 : Cond.fieldLink mi.1.cls idx "java/lang/String" "coder" "B" ∈ lw_all) (kk : V w mi cc L cb sb h pc' ls (.int 0 :: st) Q) : V w mi cc L cb sb h pc ls (.ref (w.K (10 + i)) :: st) Q := by
  obtain ⟨dd, rfl⟩ := dd
  intro p l e R s m args below meth c H locs cells slots lsA F a1 a2 a3 a4 a5 a6 hl
  have kw := kk p l e R s m args below meth c H locs cells slots lsA F a1 a2 a3 a4 a5 a6 hl
  obtain ⟨f1, f2, f3, -, -, f6, -, hK, -⟩ := id F
  obtain ⟨cf, k, fi, f, cell, h1, h2, h3, h4, h5, h6⟩ := (hK.2.2.2.2.2.2.2.2 i hi).2.2.1.kept a1.S
  exact W.getf f1 f2 f6 (hK.hts args _ l1) h1 h2 h3 h4 (v := .int 0) h5 rfl rfl dd kw
theorem V_getSv {i : Nat} (hi : i < 7) (dd : Dc cc pc (.getfield idx) 3 pc') (l1 : Cond.fieldLink mi.1.cls idx "java/lang/String" "value" "[B" ∈ lw_all) (kk : V w mi cc L cb sb h pc' ls (.ref (w.K (20 + i)) :: st) Q) : V w mi cc L cb sb h pc ls (.ref (w.K (10 + i)) :: st) Q := by
  obtain ⟨dd, rfl⟩ := dd
  intro p l e R s m args below meth c H locs cells slots lsA F a1 a2 a3 a4 a5 a6 hl
  have kw := kk p l e R s m args below meth c H locs cells slots lsA F a1 a2 a3 a4 a5 a6 hl
  obtain ⟨f1, f2, f3, -, -, f6, -, hK, -⟩ := id F
  obtain ⟨cf, k, fi, f, cell, h1, h2, h3, h4, h5, h6⟩ := (hK.2.2.2.2.2.2.2.2 i hi).2.2.2.kept a1.S
  exact W.getf f1 f2 f6 (hK.hts args _ l1) h1 h2 h3 h4 (v := .ref (w.K (20 + i))) h5 rfl rfl dd kw
variable {mi' : Mi} {cc' : ByteArray} {L' cb' sb' n : Nat} {st0 as : List Value} {Q' : Outcome → Hp → Prop}
/-- a method of a text's own class -/
theorem V_invokevirtualS {i : Nat} (hi : i < 7) (d : Dc cc pc (.invokevirtual idx) 3 pc') (lm : LM mi' cc' n) (l1 : Cond.methodLink mi.1.cls idx mi'.1 ∈ lw_all) (l2 : Cond.instanceMethod mi'.1 ∈ lw_all) (lc : mi'.1.cls = "java/lang/String") (l3 : Cond.selects "java/lang/String" mi'.1 mi'.1 ∈ lw_all) (con : Con w mi' cc' L' cb' sb' (.ref (w.K (10 + i)) :: as) h Q') (hret : hRet Q') (hL : Nat.blt L' L = true) (hn : as.length = n) (hst : st0 = as.reverse ++ .ref (w.K (10 + i)) :: st) (hw : Nat.ble (st.map fun v => v.category).sum 8 = true)
    (kk : ∀ v h', Q' (.returned v) h' → V w mi cc L cb sb h' pc' ls (v.toList ++ st) Q) : V w mi cc L (cb + cb') (sb + sb') h pc ls st0 Q := by
  obtain ⟨d, hpc⟩ := d
  refine V_of_run (Q' := Q') hpc (fun p l e R s m args below meth c H locs cells slots lsA F a1 a3 a4 a5 a6 hl => ?_) kk
  obtain ⟨f1, f2, f3, -, -, f6, -, hK, -⟩ := id F
  obtain ⟨lm1, lm2, lm3, lm4, lm5⟩ := lm
  rw [lc] at lm3
  have hr : ∃ cell : Cell, H[w.K (10 + i)]? = some cell ∧ cell.vm.isStatics = false ∧ s.vm.findClass "java/lang/String" = some cell.cls := by
    obtain ⟨cell, h1, h2, h3, -⟩ := (hK.2.2.2.2.2.2.2.2 i hi).2.1.kept a1.S
    exact ⟨cell, h1, h2, h3⟩
  exact va_Run.run (va_runV ⟨f1, f2, f3, f6, hK.hts args⟩ (con.met lm1 hret l) (cwV n (hK.hts args) (lw_V l1 l2 l3 lm3 lm2) rfl rfl rfl ⟨lc, lm4⟩ (room_ok lm5 hL a3 a4)) ⟨conP_blind w (.ref (w.K (10 + i)) :: as) h, hr, fun U hU hW => ⟨rfl, hK.moved hW, by rw [hU]; exact a1⟩⟩ rfl hn hl.1 hst (rest_ok hw) d ⟨a5, a6⟩)
end ST
