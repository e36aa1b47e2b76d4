def Rm (x : Int32) (h : Hp) (A : Nat → Nat → Int32) (F S : Nat → Int32) : Outcome → Hp → Prop := fun o h' => o = .returned (some (.int x)) ∧ ∃ (A' : Nat → Nat → Int32) (B' : Nat → Nat → Int64) (F' : Nat → Int32), A' 2 = A 2 ∧ F' 3 = F 3 ∧ h' = ms h A' B' F' S
def K_settle_248 (i : Nat) (B_1 : Nat → Nat → Int64) (q8 : Int32) : Nat → (Nat → Int32) → (Nat → Int32) := fun hh q248 =>
    if ((q8 >>> ((nI hh) &&& 31)) &&& (1 : Int32)) = (1 : Int32) then
      if (lg_cmp (B_1 14 (((20 * hh) + 8) + i)) (0 : Int64)) ≤ 0 then
        q248
      else
        let t1 := va_up q248 ((11530 + (9 * i)) + 8) ((q248 ((11530 + (9 * i)) + 8)) + (q248 ((11530 + (9 * i)) + hh)))
        let t2 := va_up t1 ((11530 + (9 * i)) + hh) (0 : Int32)
        t2
    else
      q248
def K_settle_235 (B_1 : Nat → Nat → Int64) (q8 : Int32) : Nat → (Nat → Int32) → (Nat → Int32) := fun i q235 =>
    let q248 := zfold (K_settle_248 i B_1 q8) 8 q235
    if ((q8 >>> (((8 : Int32) + (nI i)) &&& 31)) &&& (1 : Int32)) = (1 : Int32) then
      let pp := sn q248 (11490 + i)
      let t1 := va_up q248 (790 + pp) (1 : Int32)
      t1
    else
      q248
def K_settle_155  : Nat → (Nat → Int32) → (Nat → Int32) := fun p q155 =>
    if (q155 (370 + p)) = (4 : Int32) then
      let t1 := va_up q155 (790 + p) (1 : Int32)
      t1
    else
      if (q155 (370 + p)) = (5 : Int32) then
        let t2 := va_up q155 (790 + p) (1 : Int32)
        t2
      else
        let t3 := va_up q155 (790 + p) (q155 (790 + p))
        t3
def K_settle_69 (a : Nat) (B_1 : Nat → Nat → Int64) : Nat → Int64 → Int64 := fun b q69 =>
    (q69 + (B_1 15 ((20 * b) + a)))
def K_settle_47 (ns : Nat) (B_1 : Nat → Nat → Int64) : Nat → (Nat → Int32) → (Nat → Int32) := fun a q47 =>
    let q69 := zfold (K_settle_69 a B_1) 20 ((B_1 17 a) - (o_pays B_1 a))
    if (8 : Int32) ≤ (nI a) then
      if (nI ns) ≤ ((nI a) - (8 : Int32)) then
        q47
      else
        let t1 := va_up q47 (11494 + a) (q69).toInt32
        t1
    else
      let t2 := va_up q47 (192 + a) (q69).toInt32
      t2
def K_settle_8 (B_1 : Nat → Nat → Int64) : Nat → Int32 → Int32 := fun a q8 =>
    if 0 ≤ (lg_cmp (o_pays B_1 a) (B_1 18 a)) then
      (q8 ||| (0 : Int32))
    else
      (q8 ||| ((1 : Int32) <<< ((nI a) &&& 31)))
def o_settle (S : Nat → Int32) (B : Nat → Nat → Int64) (np : Nat) (ns : Nat) : Int32 × (Nat → Int32) :=
  let B_1 := (va_up (va_up (va_up (va_up (va_up B 14 (o_settles S B np).1) 15 (o_settles S B np).2.1) 16 (o_settles S B np).2.2.1) 17 (o_settles S B np).2.2.2.1) 18 (o_settles S B np).2.2.2.2)
  let q8 := zfold (K_settle_8 B_1) 20 (0 : Int32)
  let q47 := zfold (K_settle_47 ns B_1) 20 S
  let q155 := zfold (K_settle_155) np q47
  let q235 := zfold (K_settle_235 B_1 q8) ns q155
  (q8, q235)
theorem c_settle {w : Wd} {h : Hp} {m : Nat} {ad : Nat → Nat} {A : Nat → Nat → Int32} {B : Nat → Nat → Int64} {F S : Nat → Int32} (mb : MB h m ad)  {np : Nat} (hnp : S 2 = nI np) (hnp60 : np ≤ 60) (hci : ∀ p, p < np → S (370 + p) = 4 ∨ S (370 + p) = 5 → ∃ i, i < 12 ∧ S (11490 + i) = S (430 + p)) (hlo : ∀ p, p < np → S (370 + p) = 5 → ∃ k, S (550 + p) = nI k ∧ k < 8) {ns : Nat} (hns : S 9 = nI ns) (hns12 : ns ≤ 12) (hs9 : ∀ i, i < ns → ∃ p, S (11490 + i) = nI p ∧ p < 60) : Con w mX2_settle cX2_settle 3 0 0 [.ref m] (ms h A B F S) (Rm (o_settle S B np ns).1 h A F (o_settle S B np ns).2) := by
  refine Con.of (by decide +kernel) rfl rfl ?_
  show V w mX2_settle cX2_settle 3 0 0 _ 0 [some (.ref m), none, none, none, none, none] [] _
  refine V_aload0 eX2_settle_0 rfl ?_
  refine M_callU mb eX2_settle_1 lmX2_settles q2329 q2331 rfl qs91 (c_settles mb hnp hnp60 hci hlo) rfl rfl rfl rfl ?_
  obtain ⟨B_1, hB_1⟩ : ∃ T, T = (va_up (va_up (va_up (va_up (va_up B 14 (o_settles S B np).1) 15 (o_settles S B np).2.1) 16 (o_settles S B np).2.2.1) 17 (o_settles S B np).2.2.2.1) 18 (o_settles S B np).2.2.2.2) := ⟨_, rfl⟩
  rw [← hB_1]
  refine V_iconst (v := 0) (by decide) eX2_settle_4 ?_
  refine V_istore1 rfl eX2_settle_5 rfl ?_
  refine V_iconst (v := 0) (by decide) eX2_settle_6 ?_
  refine V_istore2 rfl eX2_settle_7 rfl ?_
  refine V.le (zle_c (zle_c (zle_c (zle_n (zle_n (zle_n zle_0)))))) (zloop (P := fun a => ∀ q8 : Int32, q8 = zfold (K_settle_8 B_1) a (0 : Int32) → V w mX2_settle cX2_settle 3 0 0 (ms h A B_1 F S) 8 [some (.ref m), some (.int q8), some (.int (nI a)), none, none, none] [] _) 20 (fun a ha ih8 q8 hq8  => ?_) 0 (Nat.zero_le _) (0 : Int32) rfl )
  refine V_iload2 eX2_settle_8 ?_
  refine V_bipush (v := 20) (by decide) eX2_settle_9 ?_
  refine V_if_icmpge eX2_settle_11 (fun c11 => ?_) (fun c11 => ?_)
  · have e8 : a = 20 := by have := nle (a := 20) c11 (by omega) (by omega); omega
    rw [e8] at hq8
    refine V_iconst (v := 0) (by decide) eX2_settle_45 ?_
    refine V_istore2 rfl eX2_settle_46 rfl ?_
    refine V.le (zle_c (zle_c (zle_c (zle_n (zle_n (zle_n zle_0)))))) (zloop (P := fun a => ∀ q47 : (Nat → Int32), q47 = zfold (K_settle_47 ns B_1) a S → (q47 2 = (nI np)) → (q47 9 = (nI ns)) → (∀ i, i < ns → ∃ p, q47 (11490 + i) = nI p ∧ p < 60) → V w mX2_settle cX2_settle 3 0 0 (ms h A B_1 F q47) 47 [some (.ref m), some (.int q8), some (.int (nI a)), none, none, none] [] _) 20 (fun a ha ih47 q47 hq47 hnp_2 hns_3 hs9_4 => ?_) 0 (Nat.zero_le _) S rfl hnp hns hs9)
    refine V_iload2 eX2_settle_47 ?_
    refine V_bipush (v := 20) (by decide) eX2_settle_48 ?_
    refine V_if_icmpge eX2_settle_50 (fun c50 => ?_) (fun c50 => ?_)
    · have e47 : a = 20 := by have := nle (a := 20) c50 (by omega) (by omega); omega
      rw [e47] at hq47
      refine V_iconst (v := 0) (by decide) eX2_settle_153 ?_
      refine V_istore2 rfl eX2_settle_154 rfl ?_
      refine V.le (zle_c (zle_c (zle_c (zle_n (zle_n (zle_n zle_0)))))) (zloop (P := fun p => ∀ q155 : (Nat → Int32), q155 = zfold (K_settle_155) p q47 → (q155 2 = (nI np)) → (q155 9 = (nI ns)) → (∀ i, i < ns → ∃ p, q155 (11490 + i) = nI p ∧ p < 60) → V w mX2_settle cX2_settle 3 0 0 (ms h A B_1 F q155) 155 [some (.ref m), some (.int q8), some (.int (nI p)), none, none, none] [] _) np (fun p hp ih155 q155 hq155 hnp_5 hns_6 hs9_7 => ?_) 0 (Nat.zero_le _) q47 rfl hnp_2 hns_3 hs9_4)
      refine V_iload2 eX2_settle_155 ?_
      refine V_aload0 eX2_settle_156 rfl ?_
      refine M_ga mb rfl eX2_settle_157 fl_X2_8_2 ?_
      refine V_iconst (v := 2) (by decide) eX2_settle_160 ?_
      refine M_sl (n := 2) mb rfl (by omega) hnp_5 eX2_settle_161 ?_
      refine V_if_icmpge eX2_settle_162 (fun c162 => ?_) (fun c162 => ?_)
      · have e155 : p = np := by have := nle c162 (by omega) (by omega); omega
        rw [e155] at hq155
        refine V_iconst (v := 0) (by decide) eX2_settle_233 ?_
        refine V_istore2 rfl eX2_settle_234 rfl ?_
        refine V.le (zle_c (zle_c (zle_c (zle_n (zle_n (zle_n zle_0)))))) (zloop (P := fun i => ∀ q235 : (Nat → Int32), q235 = zfold (K_settle_235 B_1 q8) i q155 → (q235 2 = (nI np)) → (q235 9 = (nI ns)) → (∀ i, i < ns → ∃ p, q235 (11490 + i) = nI p ∧ p < 60) → V w mX2_settle cX2_settle 3 0 0 (ms h A B_1 F q235) 235 [some (.ref m), some (.int q8), some (.int (nI i)), none, none, none] [] _) ns (fun i hi ih235 q235 hq235 hnp_8 hns_9 hs9_10 => ?_) 0 (Nat.zero_le _) q155 rfl hnp_5 hns_6 hs9_7)
        refine V_iload2 eX2_settle_235 ?_
        refine V_aload0 eX2_settle_236 rfl ?_
        refine M_ga mb rfl eX2_settle_237 fl_X2_8_2 ?_
        refine V_bipush (v := 9) (by decide) eX2_settle_240 ?_
        refine M_sl (n := 9) mb rfl (by omega) hns_9 eX2_settle_242 ?_
        refine V_if_icmpge eX2_settle_243 (fun c243 => ?_) (fun c243 => ?_)
        · have e235 : i = ns := by have := nle c243 (by omega) (by omega); omega
          rw [e235] at hq235
          refine V_iload1 eX2_settle_376 ?_
          have hE : (q8, q235) = o_settle S B np ns := by simp only [o_settle, ← hB_1, ← hq8, ← hq47, ← hq155, ← hq235]
          exact V_ireturn eX2_settle_377 rfl (by rw [← hE]; exact ⟨rfl, _, _, _, (by rfl), (by rfl), rfl⟩)
        · have hl235 : i < ns := by have := nnle c243 (by omega) (by omega); omega
          refine V_iconst (v := 0) (by decide) eX2_settle_246 ?_
          refine V_istore3 rfl eX2_settle_247 rfl ?_
          refine V.le (zle_c (zle_c (zle_c (zle_c (zle_n (zle_n zle_0)))))) (zloop (P := fun hh => ∀ q248 : (Nat → Int32), q248 = zfold (K_settle_248 i B_1 q8) hh q235 → (q248 2 = (nI np)) → (q248 9 = (nI ns)) → (∀ i, i < ns → ∃ p, q248 (11490 + i) = nI p ∧ p < 60) → V w mX2_settle cX2_settle 3 0 0 (ms h A B_1 F q248) 248 [some (.ref m), some (.int q8), some (.int (nI i)), some (.int (nI hh)), none, none] [] _) 8 (fun hh hhh ih248 q248 hq248 hnp_11 hns_12 hs9_13 => ?_) 0 (Nat.zero_le _) q235 rfl hnp_8 hns_9 hs9_10)
          refine V_iload3 eX2_settle_248 ?_
          refine V_bipush (v := 8) (by decide) eX2_settle_249 ?_
          refine V_if_icmpge eX2_settle_251 (fun c251 => ?_) (fun c251 => ?_)
          · have e248 : hh = 8 := by have := nle (a := 8) c251 (by omega) (by omega); omega
            rw [e248] at hq248
            refine V_iload1 eX2_settle_338 ?_
            refine V_bipush (v := 8) (by decide) eX2_settle_339 ?_
            refine V_iload2 eX2_settle_341 ?_
            refine V_iadd eX2_settle_342 ?_
            refine V_ishr eX2_settle_343 ?_
            refine V_iconst (v := 1) (by decide) eX2_settle_344 ?_
            refine V_iand eX2_settle_345 ?_
            refine V_iconst (v := 1) (by decide) eX2_settle_346 ?_
            refine V_if_icmpne eX2_settle_347 (fun c347 => ?_) (fun c347 => ?_)
            · refine V_iincN2 rfl eX2_settle_370 rfl ?_
              refine V_goto eX2_settle_373 ?_
              exact V.le (zle_c (zle_c (zle_c (zle_n (zle_n (zle_n zle_0)))))) (ih235 hl235 q248 (by rw [zfold_s (n := i), ← hq235]; simp only [K_settle_235, ← hq248, if_neg c347]) hnp_11 hns_12 hs9_13 )
            · obtain ⟨pp, hp1, hp2⟩ := hs9_13 i hl235
              have hpp : sn q248 (11490 + i) = pp := sn_of hp1 (by omega)
              refine V_aload0 eX2_settle_350 rfl ?_
              refine M_ga mb rfl eX2_settle_351 fl_X2_8_2 ?_
              refine V_sipush (v := 790) (by decide) eX2_settle_354 ?_
              refine V_aload0 eX2_settle_357 rfl ?_
              refine M_ga mb rfl eX2_settle_358 fl_X2_8_2 ?_
              refine V_sipush (v := 11490) (by decide) eX2_settle_361 ?_
              refine V_iload2 eX2_settle_364 ?_
              refine V_iadd eX2_settle_365 ?_
              refine M_sl (n := (11490 + i)) mb (zadd rfl rfl) (by omega) hp1 eX2_settle_366 ?_
              refine V_iadd eX2_settle_367 ?_
              refine V_iconst (v := 1) (by decide) eX2_settle_368 ?_
              refine M_ss (n := (790 + pp)) mb (zadd rfl rfl) (by omega) eX2_settle_369 ?_
              obtain ⟨S_14, hS_14⟩ : ∃ T, T = va_up q248 (790 + pp) (1 : Int32) := ⟨_, rfl⟩
              rw [← hS_14]
              have hnp_15 : S_14 2 = (nI np) := by rw [hS_14]; exact rdn (by omega) hnp_11
              have hns_16 : S_14 9 = (nI ns) := by rw [hS_14]; exact rdn (by omega) hns_12
              have hs9_17 : ∀ i, i < ns → ∃ p, S_14 (11490 + i) = nI p ∧ p < 60 := by rw [hS_14]; exact (fun i hi => by obtain ⟨p, h1, h2⟩ := hs9_13 i hi; exact ⟨p, by rw [va_up_ne _ _ (by omega)]; exact h1, h2⟩)
              refine V_iincN2 rfl eX2_settle_370 rfl ?_
              refine V_goto eX2_settle_373 ?_
              exact V.le (zle_c (zle_c (zle_c (zle_n (zle_n (zle_n zle_0)))))) (ih235 hl235 S_14 (by rw [zfold_s (n := i), ← hq235]; simp only [K_settle_235, ← hq248, ← hS_14, hpp, if_pos c347]) hnp_15 hns_16 hs9_17 )
          · have hl248 : hh < 8 := by have := nnle (a := 8) c251 (by omega) (by omega); omega
            refine V_iload1 eX2_settle_254 ?_
            refine V_iload3 eX2_settle_255 ?_
            refine V_ishr eX2_settle_256 ?_
            refine V_iconst (v := 1) (by decide) eX2_settle_257 ?_
            refine V_iand eX2_settle_258 ?_
            refine V_iconst (v := 1) (by decide) eX2_settle_259 ?_
            refine V_if_icmpne eX2_settle_260 (fun c260 => ?_) (fun c260 => ?_)
            · refine V_iincN3 rfl eX2_settle_332 rfl ?_
              refine V_goto eX2_settle_335 ?_
              exact V.le (zle_c (zle_c (zle_c (zle_c (zle_n (zle_n zle_0)))))) (ih248 hl248 q248 (by rw [zfold_s (n := hh), ← hq248]; simp only [K_settle_248, if_neg c260]) hnp_11 hns_12 hs9_13 )
            · refine V_aload0 eX2_settle_263 rfl ?_
              refine M_gb mb rfl eX2_settle_264 fl_X2_32_2 ?_
              refine V_bipush (v := 20) (by decide) eX2_settle_267 ?_
              refine V_iload3 eX2_settle_269 ?_
              refine V_imul eX2_settle_270 ?_
              refine V_bipush (v := 8) (by decide) eX2_settle_271 ?_
              refine V_iadd eX2_settle_273 ?_
              refine V_iload2 eX2_settle_274 ?_
              refine V_iadd eX2_settle_275 ?_
              refine M_bl (j := 14) (n := (((20 * hh) + 8) + i)) mb rfl (zadd (zadd (zmul rfl rfl) rfl) rfl) (by show _ < _; first | decide | (simp only [mlen]; omega)) (show _ = (B_1 14 (((20 * hh) + 8) + i)) from rfl) eX2_settle_276 ?_
              refine V_lconst (v := 0) (by decide) eX2_settle_277 ?_
              refine V_lcmp eX2_settle_278 ?_
              refine V_ifle eX2_settle_279 (fun c279 => ?_) (fun c279 => ?_)
              · refine V_iincN3 rfl eX2_settle_332 rfl ?_
                refine V_goto eX2_settle_335 ?_
                exact V.le (zle_c (zle_c (zle_c (zle_c (zle_n (zle_n zle_0)))))) (ih248 hl248 q248 (by rw [zfold_s (n := hh), ← hq248]; simp only [K_settle_248, if_pos c260, if_pos c279]) hnp_11 hns_12 hs9_13 )
              · refine V_aload0 eX2_settle_282 rfl ?_
                refine M_ga mb rfl eX2_settle_283 fl_X2_8_2 ?_
                refine V_sipush (v := 11530) (by decide) eX2_settle_286 ?_
                refine V_bipush (v := 9) (by decide) eX2_settle_289 ?_
                refine V_iload2 eX2_settle_291 ?_
                refine V_imul eX2_settle_292 ?_
                refine V_iadd eX2_settle_293 ?_
                refine V_bipush (v := 8) (by decide) eX2_settle_294 ?_
                refine V_iadd eX2_settle_296 ?_
                refine V_dup2 rfl rfl eX2_settle_297 ?_
                refine M_sl (n := ((11530 + (9 * i)) + 8)) mb (zadd (zadd rfl (zmul rfl rfl)) rfl) (by omega) rfl eX2_settle_298 ?_
                refine V_aload0 eX2_settle_299 rfl ?_
                refine M_ga mb rfl eX2_settle_300 fl_X2_8_2 ?_
                refine V_sipush (v := 11530) (by decide) eX2_settle_303 ?_
                refine V_bipush (v := 9) (by decide) eX2_settle_306 ?_
                refine V_iload2 eX2_settle_308 ?_
                refine V_imul eX2_settle_309 ?_
                refine V_iadd eX2_settle_310 ?_
                refine V_iload3 eX2_settle_311 ?_
                refine V_iadd eX2_settle_312 ?_
                refine M_sl (n := ((11530 + (9 * i)) + hh)) mb (zadd (zadd rfl (zmul rfl rfl)) rfl) (by omega) rfl eX2_settle_313 ?_
                refine V_iadd eX2_settle_314 ?_
                refine M_ss (n := ((11530 + (9 * i)) + 8)) mb (zadd (zadd rfl (zmul rfl rfl)) rfl) (by omega) eX2_settle_315 ?_
                obtain ⟨S_18, hS_18⟩ : ∃ T, T = va_up q248 ((11530 + (9 * i)) + 8) ((q248 ((11530 + (9 * i)) + 8)) + (q248 ((11530 + (9 * i)) + hh))) := ⟨_, rfl⟩
                rw [← hS_18]
                have hnp_19 : S_18 2 = (nI np) := by rw [hS_18]; exact rdn (by omega) hnp_11
                have hns_20 : S_18 9 = (nI ns) := by rw [hS_18]; exact rdn (by omega) hns_12
                have hs9_21 : ∀ i, i < ns → ∃ p, S_18 (11490 + i) = nI p ∧ p < 60 := by rw [hS_18]; exact (fun i hi => by obtain ⟨p, h1, h2⟩ := hs9_13 i hi; exact ⟨p, by rw [va_up_ne _ _ (by omega)]; exact h1, h2⟩)
                refine V_aload0 eX2_settle_316 rfl ?_
                refine M_ga mb rfl eX2_settle_317 fl_X2_8_2 ?_
                refine V_sipush (v := 11530) (by decide) eX2_settle_320 ?_
                refine V_bipush (v := 9) (by decide) eX2_settle_323 ?_
                refine V_iload2 eX2_settle_325 ?_
                refine V_imul eX2_settle_326 ?_
                refine V_iadd eX2_settle_327 ?_
                refine V_iload3 eX2_settle_328 ?_
                refine V_iadd eX2_settle_329 ?_
                refine V_iconst (v := 0) (by decide) eX2_settle_330 ?_
                refine M_ss (n := ((11530 + (9 * i)) + hh)) mb (zadd (zadd rfl (zmul rfl rfl)) rfl) (by omega) eX2_settle_331 ?_
                obtain ⟨S_22, hS_22⟩ : ∃ T, T = va_up S_18 ((11530 + (9 * i)) + hh) (0 : Int32) := ⟨_, rfl⟩
                rw [← hS_22]
                have hnp_23 : S_22 2 = (nI np) := by rw [hS_22]; exact rdn (by omega) hnp_19
                have hns_24 : S_22 9 = (nI ns) := by rw [hS_22]; exact rdn (by omega) hns_20
                have hs9_25 : ∀ i, i < ns → ∃ p, S_22 (11490 + i) = nI p ∧ p < 60 := by rw [hS_22]; exact (fun i hi => by obtain ⟨p, h1, h2⟩ := hs9_21 i hi; exact ⟨p, by rw [va_up_ne _ _ (by omega)]; exact h1, h2⟩)
                refine V_iincN3 rfl eX2_settle_332 rfl ?_
                refine V_goto eX2_settle_335 ?_
                exact V.le (zle_c (zle_c (zle_c (zle_c (zle_n (zle_n zle_0)))))) (ih248 hl248 S_22 (by rw [zfold_s (n := hh), ← hq248]; simp only [K_settle_248, ← hS_18, ← hS_22, if_pos c260, if_neg c279]) hnp_23 hns_24 hs9_25 )
      · have hl155 : p < np := by have := nnle c162 (by omega) (by omega); omega
        refine V_aload0 eX2_settle_165 rfl ?_
        refine M_ga mb rfl eX2_settle_166 fl_X2_8_2 ?_
        refine V_sipush (v := 370) (by decide) eX2_settle_169 ?_
        refine V_iload2 eX2_settle_172 ?_
        refine V_iadd eX2_settle_173 ?_
        refine M_sl (n := (370 + p)) mb (zadd rfl rfl) (by omega) rfl eX2_settle_174 ?_
        refine V_iconst (v := 4) (by decide) eX2_settle_175 ?_
        refine V_if_icmpeq eX2_settle_176 (fun c176 => ?_) (fun c176 => ?_)
        · refine V_iconst (v := 1) (by decide) eX2_settle_193 ?_
          refine V_goto eX2_settle_194 ?_
          refine V_istore3 rfl eX2_settle_198 rfl ?_
          refine V_aload0 eX2_settle_199 rfl ?_
          refine M_ga mb rfl eX2_settle_200 fl_X2_8_2 ?_
          refine V_sipush (v := 790) (by decide) eX2_settle_203 ?_
          refine V_iload2 eX2_settle_206 ?_
          refine V_iadd eX2_settle_207 ?_
          refine V_iload3 eX2_settle_208 ?_
          refine V_ifeq eX2_settle_209 (fun c209 => absurd c209 (by decide)) (fun c209 => ?_)
          refine V_iconst (v := 1) (by decide) eX2_settle_212 ?_
          refine V_goto eX2_settle_213 ?_
          refine M_ss (n := (790 + p)) mb (zadd rfl rfl) (by omega) eX2_settle_226 ?_
          obtain ⟨S_26, hS_26⟩ : ∃ T, T = va_up q155 (790 + p) (1 : Int32) := ⟨_, rfl⟩
          rw [← hS_26]
          have hnp_27 : S_26 2 = (nI np) := by rw [hS_26]; exact rdn (by omega) hnp_5
          have hns_28 : S_26 9 = (nI ns) := by rw [hS_26]; exact rdn (by omega) hns_6
          have hs9_29 : ∀ i, i < ns → ∃ p, S_26 (11490 + i) = nI p ∧ p < 60 := by rw [hS_26]; exact (fun i hi => by obtain ⟨p, h1, h2⟩ := hs9_7 i hi; exact ⟨p, by rw [va_up_ne _ _ (by omega)]; exact h1, h2⟩)
          refine V_iincN2 rfl eX2_settle_227 rfl ?_
          refine V_goto eX2_settle_230 ?_
          exact V.le (zle_c (zle_c (zle_c (zle_n (zle_n (zle_n zle_0)))))) (ih155 hl155 S_26 (by rw [zfold_s (n := p), ← hq155]; simp only [K_settle_155, ← hS_26, if_pos c176]) hnp_27 hns_28 hs9_29 )
        · refine V_aload0 eX2_settle_179 rfl ?_
          refine M_ga mb rfl eX2_settle_180 fl_X2_8_2 ?_
          refine V_sipush (v := 370) (by decide) eX2_settle_183 ?_
          refine V_iload2 eX2_settle_186 ?_
          refine V_iadd eX2_settle_187 ?_
          refine M_sl (n := (370 + p)) mb (zadd rfl rfl) (by omega) rfl eX2_settle_188 ?_
          refine V_iconst (v := 5) (by decide) eX2_settle_189 ?_
          refine V_if_icmpne eX2_settle_190 (fun c190 => ?_) (fun c190 => ?_)
          · refine V_iconst (v := 0) (by decide) eX2_settle_197 ?_
            refine V_istore3 rfl eX2_settle_198 rfl ?_
            refine V_aload0 eX2_settle_199 rfl ?_
            refine M_ga mb rfl eX2_settle_200 fl_X2_8_2 ?_
            refine V_sipush (v := 790) (by decide) eX2_settle_203 ?_
            refine V_iload2 eX2_settle_206 ?_
            refine V_iadd eX2_settle_207 ?_
            refine V_iload3 eX2_settle_208 ?_
            refine V_ifeq eX2_settle_209 (fun c209 => ?_) (fun c209 => absurd c209 (by decide))
            refine V_aload0 eX2_settle_216 rfl ?_
            refine M_ga mb rfl eX2_settle_217 fl_X2_8_2 ?_
            refine V_sipush (v := 790) (by decide) eX2_settle_220 ?_
            refine V_iload2 eX2_settle_223 ?_
            refine V_iadd eX2_settle_224 ?_
            refine M_sl (n := (790 + p)) mb (zadd rfl rfl) (by omega) rfl eX2_settle_225 ?_
            refine M_ss (n := (790 + p)) mb (zadd rfl rfl) (by omega) eX2_settle_226 ?_
            obtain ⟨S_30, hS_30⟩ : ∃ T, T = va_up q155 (790 + p) (q155 (790 + p)) := ⟨_, rfl⟩
            rw [← hS_30]
            have hnp_31 : S_30 2 = (nI np) := by rw [hS_30]; exact rdn (by omega) hnp_5
            have hns_32 : S_30 9 = (nI ns) := by rw [hS_30]; exact rdn (by omega) hns_6
            have hs9_33 : ∀ i, i < ns → ∃ p, S_30 (11490 + i) = nI p ∧ p < 60 := by rw [hS_30]; exact (fun i hi => by obtain ⟨p, h1, h2⟩ := hs9_7 i hi; exact ⟨p, by rw [va_up_ne _ _ (by omega)]; exact h1, h2⟩)
            refine V_iincN2 rfl eX2_settle_227 rfl ?_
            refine V_goto eX2_settle_230 ?_
            exact V.le (zle_c (zle_c (zle_c (zle_n (zle_n (zle_n zle_0)))))) (ih155 hl155 S_30 (by rw [zfold_s (n := p), ← hq155]; simp only [K_settle_155, ← hS_30, if_neg c176, if_neg c190]) hnp_31 hns_32 hs9_33 )
          · refine V_iconst (v := 1) (by decide) eX2_settle_193 ?_
            refine V_goto eX2_settle_194 ?_
            refine V_istore3 rfl eX2_settle_198 rfl ?_
            refine V_aload0 eX2_settle_199 rfl ?_
            refine M_ga mb rfl eX2_settle_200 fl_X2_8_2 ?_
            refine V_sipush (v := 790) (by decide) eX2_settle_203 ?_
            refine V_iload2 eX2_settle_206 ?_
            refine V_iadd eX2_settle_207 ?_
            refine V_iload3 eX2_settle_208 ?_
            refine V_ifeq eX2_settle_209 (fun c209 => absurd c209 (by decide)) (fun c209 => ?_)
            refine V_iconst (v := 1) (by decide) eX2_settle_212 ?_
            refine V_goto eX2_settle_213 ?_
            refine M_ss (n := (790 + p)) mb (zadd rfl rfl) (by omega) eX2_settle_226 ?_
            obtain ⟨S_34, hS_34⟩ : ∃ T, T = va_up q155 (790 + p) (1 : Int32) := ⟨_, rfl⟩
            rw [← hS_34]
            have hnp_35 : S_34 2 = (nI np) := by rw [hS_34]; exact rdn (by omega) hnp_5
            have hns_36 : S_34 9 = (nI ns) := by rw [hS_34]; exact rdn (by omega) hns_6
            have hs9_37 : ∀ i, i < ns → ∃ p, S_34 (11490 + i) = nI p ∧ p < 60 := by rw [hS_34]; exact (fun i hi => by obtain ⟨p, h1, h2⟩ := hs9_7 i hi; exact ⟨p, by rw [va_up_ne _ _ (by omega)]; exact h1, h2⟩)
            refine V_iincN2 rfl eX2_settle_227 rfl ?_
            refine V_goto eX2_settle_230 ?_
            exact V.le (zle_c (zle_c (zle_c (zle_n (zle_n (zle_n zle_0)))))) (ih155 hl155 S_34 (by rw [zfold_s (n := p), ← hq155]; simp only [K_settle_155, ← hS_34, if_neg c176, if_pos c190]) hnp_35 hns_36 hs9_37 )
    · have hl47 : a < 20 := by have := nnle (a := 20) c50 (by omega) (by omega); omega
      refine V_aload0 eX2_settle_53 rfl ?_
      refine M_gb mb rfl eX2_settle_54 fl_X2_42_2 ?_
      refine V_iload2 eX2_settle_57 ?_
      refine M_bl (j := 17) (n := a) mb rfl rfl (by show _ < _; first | decide | (simp only [mlen]; omega)) (show _ = (B_1 17 a) from rfl) eX2_settle_58 ?_
      refine V_aload0 eX2_settle_59 rfl ?_
      refine V_iload2 eX2_settle_60 ?_
      refine M_call mb eX2_settle_61 lmX2_pays q2337 q2339 rfl qs93 (c_pays mb a (by omega)) rfl rfl rfl rfl ?_
      refine V_lsub eX2_settle_64 ?_
      refine V_lstore3 rfl eX2_settle_65 rfl ?_
      refine V_iconst (v := 0) (by decide) eX2_settle_66 ?_
      refine V_istore5 rfl eX2_settle_67 rfl ?_
      refine V.le (zle_c (zle_c (zle_c (zle_c (zle_n (zle_c zle_0)))))) (zloop (P := fun b => ∀ q69 : Int64, q69 = zfold (K_settle_69 a B_1) b ((B_1 17 a) - (o_pays B_1 a)) → V w mX2_settle cX2_settle 3 0 0 (ms h A B_1 F q47) 69 [some (.ref m), some (.int q8), some (.int (nI a)), some (.long q69), none, some (.int (nI b))] [] _) 20 (fun b hb ih69 q69 hq69  => ?_) 0 (Nat.zero_le _) ((B_1 17 a) - (o_pays B_1 a)) rfl )
      refine V_iload5 eX2_settle_69 ?_
      refine V_bipush (v := 20) (by decide) eX2_settle_71 ?_
      refine V_if_icmpge eX2_settle_73 (fun c73 => ?_) (fun c73 => ?_)
      · have e69 : b = 20 := by have := nle (a := 20) c73 (by omega) (by omega); omega
        rw [e69] at hq69
        refine V_iload2 eX2_settle_97 ?_
        refine V_bipush (v := 8) (by decide) eX2_settle_98 ?_
        refine V_if_icmpge eX2_settle_100 (fun c100 => ?_) (fun c100 => ?_)
        · have ha8 := nle (a := 8) c100 (by omega) (by omega)
          refine V_iload2 eX2_settle_118 ?_
          refine V_bipush (v := 8) (by decide) eX2_settle_119 ?_
          refine V_isub eX2_settle_121 ?_
          refine V_aload0 eX2_settle_122 rfl ?_
          refine M_ga mb rfl eX2_settle_123 fl_X2_8_2 ?_
          refine V_bipush (v := 9) (by decide) eX2_settle_126 ?_
          refine M_sl (n := 9) mb rfl (by omega) hns_3 eX2_settle_128 ?_
          refine V_if_icmpge eX2_settle_129 (fun c129 => ?_) (fun c129 => ?_)
          · refine V_iincN2 rfl eX2_settle_147 rfl ?_
            refine V_goto eX2_settle_150 ?_
            exact V.le (zle_c (zle_c (zle_c (zle_n (zle_n (zle_n zle_0)))))) (ih47 hl47 q47 (by rw [zfold_s (n := a), ← hq47]; simp only [K_settle_47, ← hq69, if_pos c100, if_pos c129]) hnp_2 hns_3 hs9_4 )
          · refine V_aload0 eX2_settle_132 rfl ?_
            refine M_ga mb rfl eX2_settle_133 fl_X2_8_2 ?_
            refine V_sipush (v := 11502) (by decide) eX2_settle_136 ?_
            refine V_iload2 eX2_settle_139 ?_
            refine V_iadd eX2_settle_140 ?_
            refine V_bipush (v := 8) (by decide) eX2_settle_141 ?_
            refine V_isub eX2_settle_143 ?_
            refine V_lload3 eX2_settle_144 ?_
            refine V_l2i eX2_settle_145 ?_
            refine M_ss (n := (11494 + a)) mb (zsubm (n := 11494 + a) (m := 8) ((show _ = nI (11502 + a) from zadd rfl rfl).trans (congrArg nI (by omega))) rfl) (by omega) eX2_settle_146 ?_
            obtain ⟨S_38, hS_38⟩ : ∃ T, T = va_up q47 (11494 + a) (q69).toInt32 := ⟨_, rfl⟩
            rw [← hS_38]
            have hnp_39 : S_38 2 = (nI np) := by rw [hS_38]; exact rdn (by omega) hnp_2
            have hns_40 : S_38 9 = (nI ns) := by rw [hS_38]; exact rdn (by omega) hns_3
            have hs9_41 : ∀ i, i < ns → ∃ p, S_38 (11490 + i) = nI p ∧ p < 60 := by rw [hS_38]; exact (fun i hi => by obtain ⟨p, h1, h2⟩ := hs9_4 i hi; exact ⟨p, by rw [va_up_ne _ _ (by omega)]; exact h1, h2⟩)
            refine V_iincN2 rfl eX2_settle_147 rfl ?_
            refine V_goto eX2_settle_150 ?_
            exact V.le (zle_c (zle_c (zle_c (zle_n (zle_n (zle_n zle_0)))))) (ih47 hl47 S_38 (by rw [zfold_s (n := a), ← hq47]; simp only [K_settle_47, ← hq69, ← hS_38, if_pos c100, if_neg c129]) hnp_39 hns_40 hs9_41 )
        · have ha8 := nnle (a := 8) c100 (by omega) (by omega)
          refine V_aload0 eX2_settle_103 rfl ?_
          refine M_ga mb rfl eX2_settle_104 fl_X2_8_2 ?_
          refine V_sipush (v := 192) (by decide) eX2_settle_107 ?_
          refine V_iload2 eX2_settle_110 ?_
          refine V_iadd eX2_settle_111 ?_
          refine V_lload3 eX2_settle_112 ?_
          refine V_l2i eX2_settle_113 ?_
          refine M_ss (n := (192 + a)) mb (zadd rfl rfl) (by omega) eX2_settle_114 ?_
          obtain ⟨S_42, hS_42⟩ : ∃ T, T = va_up q47 (192 + a) (q69).toInt32 := ⟨_, rfl⟩
          rw [← hS_42]
          have hnp_43 : S_42 2 = (nI np) := by rw [hS_42]; exact rdn (by omega) hnp_2
          have hns_44 : S_42 9 = (nI ns) := by rw [hS_42]; exact rdn (by omega) hns_3
          have hs9_45 : ∀ i, i < ns → ∃ p, S_42 (11490 + i) = nI p ∧ p < 60 := by rw [hS_42]; exact (fun i hi => by obtain ⟨p, h1, h2⟩ := hs9_4 i hi; exact ⟨p, by rw [va_up_ne _ _ (by omega)]; exact h1, h2⟩)
          refine V_goto eX2_settle_115 ?_
          refine V_iincN2 rfl eX2_settle_147 rfl ?_
          refine V_goto eX2_settle_150 ?_
          exact V.le (zle_c (zle_c (zle_c (zle_n (zle_n (zle_n zle_0)))))) (ih47 hl47 S_42 (by rw [zfold_s (n := a), ← hq47]; simp only [K_settle_47, ← hq69, ← hS_42, if_neg c100]) hnp_43 hns_44 hs9_45 )
      · have hl69 : b < 20 := by have := nnle (a := 20) c73 (by omega) (by omega); omega
        refine V_lload3 eX2_settle_76 ?_
        refine V_aload0 eX2_settle_77 rfl ?_
        refine M_gb mb rfl eX2_settle_78 fl_X2_36_2 ?_
        refine V_bipush (v := 20) (by decide) eX2_settle_81 ?_
        refine V_iload5 eX2_settle_83 ?_
        refine V_imul eX2_settle_85 ?_
        refine V_iload2 eX2_settle_86 ?_
        refine V_iadd eX2_settle_87 ?_
        refine M_bl (j := 15) (n := ((20 * b) + a)) mb rfl (zadd (zmul rfl rfl) rfl) (by show _ < _; first | decide | (simp only [mlen]; omega)) (show _ = (B_1 15 ((20 * b) + a)) from rfl) eX2_settle_88 ?_
        refine V_ladd eX2_settle_89 ?_
        refine V_lstore3 rfl eX2_settle_90 rfl ?_
        refine V_iincN5 rfl eX2_settle_91 rfl ?_
        refine V_goto eX2_settle_94 ?_
        exact V.le (zle_c (zle_c (zle_c (zle_c (zle_n (zle_c zle_0)))))) (ih69 hl69 (q69 + (B_1 15 ((20 * b) + a))) (by rw [zfold_s (n := b), ← hq69]; simp only [K_settle_69])  )
  · have hl8 : a < 20 := by have := nnle (a := 20) c11 (by omega) (by omega); omega
    refine V_iload1 eX2_settle_14 ?_
    refine V_aload0 eX2_settle_15 rfl ?_
    refine V_iload2 eX2_settle_16 ?_
    refine M_call mb eX2_settle_17 lmX2_pays q2337 q2339 rfl qs93 (c_pays mb a (by omega)) rfl rfl rfl rfl ?_
    refine V_aload0 eX2_settle_20 rfl ?_
    refine M_gb mb rfl eX2_settle_21 fl_X2_45_2 ?_
    refine V_iload2 eX2_settle_24 ?_
    refine M_bl (j := 18) (n := a) mb rfl rfl (by show _ < _; first | decide | (simp only [mlen]; omega)) (show _ = (B_1 18 a) from rfl) eX2_settle_25 ?_
    refine V_lcmp eX2_settle_26 ?_
    refine V_ifge eX2_settle_27 (fun c27 => ?_) (fun c27 => ?_)
    · refine V_iconst (v := 0) (by decide) eX2_settle_36 ?_
      refine V_ior eX2_settle_37 ?_
      refine V_istore1 rfl eX2_settle_38 rfl ?_
      refine V_iincN2 rfl eX2_settle_39 rfl ?_
      refine V_goto eX2_settle_42 ?_
      exact V.le (zle_c (zle_c (zle_c (zle_n (zle_n (zle_n zle_0)))))) (ih8 hl8 (q8 ||| (0 : Int32)) (by rw [zfold_s (n := a), ← hq8]; simp only [K_settle_8, if_pos c27])  )
    · refine V_iconst (v := 1) (by decide) eX2_settle_30 ?_
      refine V_iload2 eX2_settle_31 ?_
      refine V_ishl eX2_settle_32 ?_
      refine V_goto eX2_settle_33 ?_
      refine V_ior eX2_settle_37 ?_
      refine V_istore1 rfl eX2_settle_38 rfl ?_
      refine V_iincN2 rfl eX2_settle_39 rfl ?_
      refine V_goto eX2_settle_42 ?_
      exact V.le (zle_c (zle_c (zle_c (zle_n (zle_n (zle_n zle_0)))))) (ih8 hl8 (q8 ||| ((1 : Int32) <<< ((nI a) &&& 31))) (by rw [zfold_s (n := a), ← hq8]; simp only [K_settle_8, if_neg c27])  )

def o_along (S : Nat → Int32) (B : Nat → Nat → Int64) (np : Nat) (what : Int32) (which : Int32) : Int32 × (Nat → Int32) :=
  if (zin what (0 : Int32) (1 : Int32)) = 0 then
    ((-1 : Int32), S)
  else
    if what = 0 then
      if (zin which 0 7) = 0 then
        ((-1 : Int32), S)
      else
        let c := which.toNatClampNeg
        let B_2 := (va_up (va_up (va_up (va_up (va_up B 14 (o_settles S B np).1) 15 (o_settles S B np).2.1) 16 (o_settles S B np).2.2.1) 17 (o_settles S B np).2.2.2.1) 18 (o_settles S B np).2.2.2.2)
        (((o_pays B_2 c)).toInt32, S)
    else
      if (bI (zof S which 1)) = 0 then
        ((-1 : Int32), S)
      else
        let p := which.toNatClampNeg
        let B_1 := (va_up (va_up (va_up (va_up (va_up B 14 (o_settles S B np).1) 15 (o_settles S B np).2.1) 16 (o_settles S B np).2.2.1) 17 (o_settles S B np).2.2.2.1) 18 (o_settles S B np).2.2.2.2)
        (((o_pays B_1 (8 + (sI S (nI p))))).toInt32, S)
theorem c_along {w : Wd} {h : Hp} {m : Nat} {ad : Nat → Nat} {A : Nat → Nat → Int32} {B : Nat → Nat → Int64} {F S : Nat → Int32} (mb : MB h m ad) (what : Int32) (which : Int32) {np : Nat} (hnp : S 2 = nI np) (hnp60 : np ≤ 60) (hci : ∀ p, p < np → S (370 + p) = 4 ∨ S (370 + p) = 5 → ∃ i, i < 12 ∧ S (11490 + i) = S (430 + p)) (hlo : ∀ p, p < np → S (370 + p) = 5 → ∃ k, S (550 + p) = nI k ∧ k < 8) (isp : ∀ p, p < np → S (370 + p) = 1 → ∃ i, i < 12 ∧ S (11490 + i) = nI p) : Con w mX2_along cX2_along 5 0 0 [.ref m, .int what, .int which] (ms h A B F S) (Rm (o_along S B np what which).1 h A F (o_along S B np what which).2) := by
  refine Con.of (by decide +kernel) rfl rfl ?_
  show V w mX2_along cX2_along 5 0 0 _ 0 [some (.ref m), some (.int what), some (.int which)] [] _
  refine V_iload1 eX2_along_0 ?_
  refine V_iconst (v := 0) (by decide) eX2_along_1 ?_
  refine V_iconst (v := 1) (by decide) eX2_along_2 ?_
  refine C0_static eX2_along_3 lmX2_in q1966 q1967 (c_in _ _ _ _) rfl rfl rfl rfl ?_
  refine V_ifeq eX2_along_6 (fun c6 => ?_) (fun c6 => ?_)
  · refine V_iconst (v := -1) (by decide) eX2_along_31 ?_
    have hE : ((-1 : Int32), S) = o_along S B np what which := by simp only [o_along, if_pos c6]
    exact V_ireturn eX2_along_32 rfl (by rw [← hE]; exact ⟨rfl, _, _, _, (by rfl), (by rfl), rfl⟩)
  · refine V_iload1 eX2_along_9 ?_
    refine V_ifne eX2_along_10 (fun c10 => ?_) (fun c10 => ?_)
    · refine V_aload0 eX2_along_23 rfl ?_
      refine V_iload2 eX2_along_24 ?_
      refine M_call mb eX2_along_25 lmX2_isScheme q2277 q2279 rfl qs86 (c_isScheme mb _ hnp hnp60) rfl rfl rfl rfl ?_
      refine V_ifne eX2_along_28 (fun c28 => ?_) (fun c28 => ?_)
      · have hz := bI_n0.mp c28
        obtain ⟨p, hp, rfl, hk⟩ := zof_get hz hnp hnp60
        have hcc : (nI p).toNatClampNeg = p := nI_clamp (by omega)
        have hsp := isp p hp hk
        have hlt := (sI_lt (Nat.le_refl 12) hsp).1
        refine V_aload0 eX2_along_33 rfl ?_
        refine M_callU mb eX2_along_34 lmX2_settles q2329 q2331 rfl qs91 (c_settles mb hnp hnp60 hci hlo) rfl rfl rfl rfl ?_
        obtain ⟨B_1, hB_1⟩ : ∃ T, T = (va_up (va_up (va_up (va_up (va_up B 14 (o_settles S B np).1) 15 (o_settles S B np).2.1) 16 (o_settles S B np).2.2.1) 17 (o_settles S B np).2.2.2.1) 18 (o_settles S B np).2.2.2.2) := ⟨_, rfl⟩
        rw [← hB_1]
        refine V_aload0 eX2_along_37 rfl ?_
        refine V_iload1 eX2_along_38 ?_
        refine V_ifne eX2_along_39 (fun c39 => ?_) (fun c39 => absurd c39 c10)
        refine V_bipush (v := 8) (by decide) eX2_along_46 ?_
        refine V_aload0 eX2_along_48 rfl ?_
        refine V_iload2 eX2_along_49 ?_
        refine M_call mb eX2_along_50 lmX2_indexOf q2289 q2291 rfl qs89 (c_indexOf mb hsp) rfl rfl rfl rfl ?_
        refine V_iadd eX2_along_53 ?_
        rw [show ((8 : Int32) + (nI (sI S (nI p)))) = nI (8 + (sI S (nI p))) from (zadd rfl rfl)]
        refine M_call mb eX2_along_54 lmX2_pays q2337 q2339 rfl qs93 (c_pays mb (8 + (sI S (nI p))) (by omega)) rfl rfl rfl rfl ?_
        refine V_l2i eX2_along_57 ?_
        have hE : (((o_pays B_1 (8 + (sI S (nI p))))).toInt32, S) = o_along S B np what (nI p) := by simp only [o_along, ← hB_1, hcc, if_neg c6, if_neg c10, if_neg c28]
        exact V_ireturn eX2_along_58 rfl (by rw [← hE]; exact ⟨rfl, _, _, _, (by rfl), (by rfl), rfl⟩)
      · refine V_iconst (v := -1) (by decide) eX2_along_31 ?_
        have hE : ((-1 : Int32), S) = o_along S B np what which := by simp only [o_along, if_neg c6, if_neg c10, if_pos c28]
        exact V_ireturn eX2_along_32 rfl (by rw [← hE]; exact ⟨rfl, _, _, _, (by rfl), (by rfl), rfl⟩)
    · refine V_iload2 eX2_along_13 ?_
      refine C0_static eX2_along_14 lmX2_isHolder q1977 q1978 (c_isHolder _ _) rfl rfl rfl rfl ?_
      refine V_ifne eX2_along_17 (fun c17 => ?_) (fun c17 => ?_)
      · obtain ⟨c, hc, rfl⟩ := zinN (m := 7) c17 rfl (by decide)
        have hcc : (nI c).toNatClampNeg = c := nI_clamp (by omega)
        refine V_aload0 eX2_along_33 rfl ?_
        refine M_callU mb eX2_along_34 lmX2_settles q2329 q2331 rfl qs91 (c_settles mb hnp hnp60 hci hlo) rfl rfl rfl rfl ?_
        obtain ⟨B_2, hB_2⟩ : ∃ T, T = (va_up (va_up (va_up (va_up (va_up B 14 (o_settles S B np).1) 15 (o_settles S B np).2.1) 16 (o_settles S B np).2.2.1) 17 (o_settles S B np).2.2.2.1) 18 (o_settles S B np).2.2.2.2) := ⟨_, rfl⟩
        rw [← hB_2]
        refine V_aload0 eX2_along_37 rfl ?_
        refine V_iload1 eX2_along_38 ?_
        refine V_ifne eX2_along_39 (fun c39 => absurd c10 c39) (fun c39 => ?_)
        refine V_iload2 eX2_along_42 ?_
        refine V_goto eX2_along_43 ?_
        refine M_call mb eX2_along_54 lmX2_pays q2337 q2339 rfl qs93 (c_pays mb c (by omega)) rfl rfl rfl rfl ?_
        refine V_l2i eX2_along_57 ?_
        have hE : (((o_pays B_2 c)).toInt32, S) = o_along S B np what (nI c) := by simp only [o_along, ← hB_2, hcc, if_neg c6, if_pos c10, if_neg c17]
        exact V_ireturn eX2_along_58 rfl (by rw [← hE]; exact ⟨rfl, _, _, _, (by rfl), (by rfl), rfl⟩)
      · refine V_goto eX2_along_20 ?_
        refine V_iconst (v := -1) (by decide) eX2_along_31 ?_
        have hE : ((-1 : Int32), S) = o_along S B np what which := by simp only [o_along, if_neg c6, if_pos c10, if_pos c17]
        exact V_ireturn eX2_along_32 rfl (by rw [← hE]; exact ⟨rfl, _, _, _, (by rfl), (by rfl), rfl⟩)

def K_digs_270 (np : Nat) (td : Nat) : Nat → (Nat → Int32) → (Nat → Int32) := fun p q270 =>
    if (nI np) ≤ (nI p) then
      let t1 := va_up q270 ((23840 + (1000 * p)) + td) (-1 : Int32)
      t1
    else
      if (bI (decide (q270 (370 + p) = 3) && decide (q270 (790 + p) = 1))) = 0 then
        let t2 := va_up q270 ((23840 + (1000 * p)) + td) (-1 : Int32)
        t2
      else
        let t3 := va_up q270 ((23840 + (1000 * p)) + td) (q270 (970 + p))
        t3
def K_digs_215 (td : Nat) : Nat → (Nat → Int32) → (Nat → Int32) := fun i q215 =>
    if (q215 9) ≤ (nI i) then
      let t1 := va_up q215 ((11840 + (1000 * i)) + td) (-1 : Int32)
      t1
    else
      let t2 := va_up q215 ((11840 + (1000 * i)) + td) (q215 (11502 + i))
      t2
def K_digs_18 (td : Nat) : Nat → Int32 × (Nat → Int32) → Int32 × (Nat → Int32) := fun i q18 =>
    if (bI (decide (q18.2 (370 + i) = 3) && decide (q18.2 (790 + i) = 1))) = 0 then
      (q18.1, q18.2)
    else
      let pl := sn q18.2 (430 + i)
      let sc := sn q18.2 (430 + pl)
      if (q18.2 (970 + i)) ≤ 0 then
        (q18.1, q18.2)
      else
        if (bI (decide (q18.2 (790 + sc) = 1))) = 0 then
          if q18.1 ≤ (q18.2 (970 + i)) then
            if q18.1 ≤ ((q18.2 (11502 + (sI q18.2 (nI sc)))) / (2 : Int32)) then
              let t1 := va_up q18.2 (11502 + (sI q18.2 (nI sc))) ((q18.2 (11502 + (sI q18.2 (nI sc)))) - ((2 : Int32) * q18.1))
              let t2 := va_up t1 (970 + i) ((t1 (970 + i)) - q18.1)
              if (t2 (970 + i)) = 0 then
                let t3 := va_up t2 (1030 + i) (nI td)
                ((q18.1 - q18.1), t3)
              else
                let t4 := va_up t2 (1030 + i) (t2 (1030 + i))
                ((q18.1 - q18.1), t4)
            else
              let t5 := va_up q18.2 (11502 + (sI q18.2 (nI sc))) ((q18.2 (11502 + (sI q18.2 (nI sc)))) - ((2 : Int32) * ((q18.2 (11502 + (sI q18.2 (nI sc)))) / (2 : Int32))))
              let t6 := va_up t5 (970 + i) ((t5 (970 + i)) - ((q18.2 (11502 + (sI q18.2 (nI sc)))) / (2 : Int32)))
              if (t6 (970 + i)) = 0 then
                let t7 := va_up t6 (1030 + i) (nI td)
                ((q18.1 - ((q18.2 (11502 + (sI q18.2 (nI sc)))) / (2 : Int32))), t7)
              else
                let t8 := va_up t6 (1030 + i) (t6 (1030 + i))
                ((q18.1 - ((q18.2 (11502 + (sI q18.2 (nI sc)))) / (2 : Int32))), t8)
          else
            if (q18.2 (970 + i)) ≤ ((q18.2 (11502 + (sI q18.2 (nI sc)))) / (2 : Int32)) then
              let t9 := va_up q18.2 (11502 + (sI q18.2 (nI sc))) ((q18.2 (11502 + (sI q18.2 (nI sc)))) - ((2 : Int32) * (q18.2 (970 + i))))
              let t10 := va_up t9 (970 + i) ((t9 (970 + i)) - (q18.2 (970 + i)))
              if (t10 (970 + i)) = 0 then
                let t11 := va_up t10 (1030 + i) (nI td)
                ((q18.1 - (q18.2 (970 + i))), t11)
              else
                let t12 := va_up t10 (1030 + i) (t10 (1030 + i))
                ((q18.1 - (q18.2 (970 + i))), t12)
            else
              let t13 := va_up q18.2 (11502 + (sI q18.2 (nI sc))) ((q18.2 (11502 + (sI q18.2 (nI sc)))) - ((2 : Int32) * ((q18.2 (11502 + (sI q18.2 (nI sc)))) / (2 : Int32))))
              let t14 := va_up t13 (970 + i) ((t13 (970 + i)) - ((q18.2 (11502 + (sI q18.2 (nI sc)))) / (2 : Int32)))
              if (t14 (970 + i)) = 0 then
                let t15 := va_up t14 (1030 + i) (nI td)
                ((q18.1 - ((q18.2 (11502 + (sI q18.2 (nI sc)))) / (2 : Int32))), t15)
              else
                let t16 := va_up t14 (1030 + i) (t14 (1030 + i))
                ((q18.1 - ((q18.2 (11502 + (sI q18.2 (nI sc)))) / (2 : Int32))), t16)
        else
          (q18.1, q18.2)
def o_digs (S : Nat → Int32) (np : Nat) (td : Nat) : (Nat → Int32) :=
  let q18 := zfold (K_digs_18 td) np (((3 : Int32) * (S 5)), S)
  let q215 := zfold (K_digs_215 td) 12 q18.2
  let q270 := zfold (K_digs_270 np td) 60 q215
  let S_8 := va_up q270 0 ((nI td) + (1 : Int32))
  S_8
theorem c_digs {w : Wd} {h : Hp} {m : Nat} {ad : Nat → Nat} {A : Nat → Nat → Int32} {B : Nat → Nat → Int64} {F S : Nat → Int32} (mb : MB h m ad)  {np : Nat} (hnp : S 2 = nI np) (hnp60 : np ≤ 60) {td : Nat} (htd : S 0 = nI td) (htd9 : td ≤ 998) (hob : ∀ b, b < np → S (370 + b) = 3 → ∃ pl sc, S (430 + b) = nI pl ∧ pl < 60 ∧ S (430 + pl) = nI sc ∧ sc < 60 ∧ ∃ i, i < 12 ∧ S (11490 + i) = nI sc) : Con w mX2_digs cX2_digs 2 0 0 [.ref m] (ms h A B F S) (Ru (ms h A B F (o_digs S np td))) := by
  refine Con.of (by decide +kernel) rfl rfl ?_
  show V w mX2_digs cX2_digs 2 0 0 _ 0 [some (.ref m), none, none, none, none, none] [] _
  have hfr : ∀ j, (j < 970 ∨ 1090 ≤ j ∧ j < 11502 ∨ 11514 ≤ j) → S j = S j := fun j _ => rfl
  refine V_aload0 eX2_digs_0 rfl ?_
  refine M_ga mb rfl eX2_digs_1 fl_X2_8_2 ?_
  refine V_iconst (v := 0) (by decide) eX2_digs_4 ?_
  refine M_sl (n := 0) mb rfl (by omega) htd eX2_digs_5 ?_
  refine V_istore1 rfl eX2_digs_6 rfl ?_
  refine V_iconst (v := 3) (by decide) eX2_digs_7 ?_
  refine V_aload0 eX2_digs_8 rfl ?_
  refine M_ga mb rfl eX2_digs_9 fl_X2_8_2 ?_
  refine V_iconst (v := 5) (by decide) eX2_digs_12 ?_
  refine M_sl (n := 5) mb rfl (by omega) rfl eX2_digs_13 ?_
  refine V_imul eX2_digs_14 ?_
  refine V_istore2 rfl eX2_digs_15 rfl ?_
  refine V_iconst (v := 0) (by decide) eX2_digs_16 ?_
  refine V_istore3 rfl eX2_digs_17 rfl ?_
  refine V.le (zle_c (zle_c (zle_c (zle_c (zle_n (zle_n zle_0)))))) (zloop (P := fun i => ∀ q18 : Int32 × (Nat → Int32), q18 = zfold (K_digs_18 td) i (((3 : Int32) * (S 5)), S) → (q18.2 2 = (nI np)) → (q18.2 0 = (nI td)) → (∀ j, (j < 970 ∨ 1090 ≤ j ∧ j < 11502 ∨ 11514 ≤ j) → q18.2 j = S j) → V w mX2_digs cX2_digs 2 0 0 (ms h A B F q18.2) 18 [some (.ref m), some (.int (nI td)), some (.int q18.1), some (.int (nI i)), none, none] [] _) np (fun i hi ih18 q18 hq18 hnp_1 htd_2 hfr_3 => ?_) 0 (Nat.zero_le _) (((3 : Int32) * (S 5)), S) rfl hnp htd hfr)
  refine V_iload3 eX2_digs_18 ?_
  refine V_aload0 eX2_digs_19 rfl ?_
  refine M_ga mb rfl eX2_digs_20 fl_X2_8_2 ?_
  refine V_iconst (v := 2) (by decide) eX2_digs_23 ?_
  refine M_sl (n := 2) mb rfl (by omega) hnp_1 eX2_digs_24 ?_
  refine V_if_icmpge eX2_digs_25 (fun c25 => ?_) (fun c25 => ?_)
  · have e18 : i = np := by have := nle c25 (by omega) (by omega); omega
    rw [e18] at hq18
    refine V_iconst (v := 0) (by decide) eX2_digs_213 ?_
    refine V_istore3 rfl eX2_digs_214 rfl ?_
    refine V.le (zle_c (zle_c (zle_n (zle_c (zle_n (zle_n zle_0)))))) (zloop (P := fun i => ∀ q215 : (Nat → Int32), q215 = zfold (K_digs_215 td) i q18.2 → (q215 2 = (nI np)) → (q215 0 = (nI td)) → V w mX2_digs cX2_digs 2 0 0 (ms h A B F q215) 215 [some (.ref m), some (.int (nI td)), none, some (.int (nI i)), none, none] [] _) 12 (fun i hi ih215 q215 hq215 hnp_4 htd_5 => ?_) 0 (Nat.zero_le _) q18.2 rfl hnp_1 htd_2)
    refine V_iload3 eX2_digs_215 ?_
    refine V_bipush (v := 12) (by decide) eX2_digs_216 ?_
    refine V_if_icmpge eX2_digs_218 (fun c218 => ?_) (fun c218 => ?_)
    · have e215 : i = 12 := by have := nle (a := 12) c218 (by omega) (by omega); omega
      rw [e215] at hq215
      refine V_iconst (v := 0) (by decide) eX2_digs_268 ?_
      refine V_istore3 rfl eX2_digs_269 rfl ?_
      refine V.le (zle_c (zle_c (zle_n (zle_c (zle_n (zle_n zle_0)))))) (zloop (P := fun p => ∀ q270 : (Nat → Int32), q270 = zfold (K_digs_270 np td) p q215 → (q270 2 = (nI np)) → (q270 0 = (nI td)) → V w mX2_digs cX2_digs 2 0 0 (ms h A B F q270) 270 [some (.ref m), some (.int (nI td)), none, some (.int (nI p)), none, none] [] _) 60 (fun p hp ih270 q270 hq270 hnp_6 htd_7 => ?_) 0 (Nat.zero_le _) q215 rfl hnp_4 htd_5)
      refine V_iload3 eX2_digs_270 ?_
      refine V_bipush (v := 60) (by decide) eX2_digs_271 ?_
      refine V_if_icmpge eX2_digs_273 (fun c273 => ?_) (fun c273 => ?_)
      · have e270 : p = 60 := by have := nle (a := 60) c273 (by omega) (by omega); omega
        rw [e270] at hq270
        refine V_aload0 eX2_digs_330 rfl ?_
        refine M_ga mb rfl eX2_digs_331 fl_X2_8_2 ?_
        refine V_iconst (v := 0) (by decide) eX2_digs_334 ?_
        refine V_dup2 rfl rfl eX2_digs_335 ?_
        refine M_sl (n := 0) mb rfl (by omega) htd_7 eX2_digs_336 ?_
        refine V_iconst (v := 1) (by decide) eX2_digs_337 ?_
        refine V_iadd eX2_digs_338 ?_
        refine M_ss (n := 0) mb rfl (by omega) eX2_digs_339 ?_
        obtain ⟨S_8, hS_8⟩ : ∃ T, T = va_up q270 0 ((nI td) + (1 : Int32)) := ⟨_, rfl⟩
        rw [← hS_8]
        have hnp_9 : S_8 2 = (nI np) := by rw [hS_8]; exact rdn (by omega) hnp_6
        have hE : S_8 = o_digs S np td := by simp only [o_digs, ← hq18, ← hq215, ← hq270, ← hS_8]
        exact V_return (x := ()) eX2_digs_340 rfl (by rw [← hE]; exact ⟨rfl, rfl⟩)
      · have hl270 : p < 60 := by have := nnle (a := 60) c273 (by omega) (by omega); omega
        refine V_aload0 eX2_digs_276 rfl ?_
        refine M_ga mb rfl eX2_digs_277 fl_X2_8_2 ?_
        refine V_sipush (v := 23840) (by decide) eX2_digs_280 ?_
        refine V_sipush (v := 1000) (by decide) eX2_digs_283 ?_
        refine V_iload3 eX2_digs_286 ?_
        refine V_imul eX2_digs_287 ?_
        refine V_iadd eX2_digs_288 ?_
        refine V_iload1 eX2_digs_289 ?_
        refine V_iadd eX2_digs_290 ?_
        refine V_iload3 eX2_digs_291 ?_
        refine V_aload0 eX2_digs_292 rfl ?_
        refine M_ga mb rfl eX2_digs_293 fl_X2_8_2 ?_
        refine V_iconst (v := 2) (by decide) eX2_digs_296 ?_
        refine M_sl (n := 2) mb rfl (by omega) hnp_6 eX2_digs_297 ?_
        refine V_if_icmpge eX2_digs_298 (fun c298 => ?_) (fun c298 => ?_)
        · refine V_iconst (v := -1) (by decide) eX2_digs_322 ?_
          refine M_ss (n := ((23840 + (1000 * p)) + td)) mb (zadd (zadd rfl (zmul rfl rfl)) rfl) (by omega) eX2_digs_323 ?_
          obtain ⟨S_10, hS_10⟩ : ∃ T, T = va_up q270 ((23840 + (1000 * p)) + td) (-1 : Int32) := ⟨_, rfl⟩
          rw [← hS_10]
          have hnp_11 : S_10 2 = (nI np) := by rw [hS_10]; exact rdn (by omega) hnp_6
          have htd_12 : S_10 0 = (nI td) := by rw [hS_10]; exact rdn (by omega) htd_7
          refine V_iincN3 rfl eX2_digs_324 rfl ?_
          refine V_goto eX2_digs_327 ?_
          exact V.le (zle_c (zle_c (zle_n (zle_c (zle_n (zle_n zle_0)))))) (ih270 hl270 S_10 (by rw [zfold_s (n := p), ← hq270]; simp only [K_digs_270, ← hS_10, if_pos c298]) hnp_11 htd_12 )
        · refine V_aload0 eX2_digs_301 rfl ?_
          refine V_iload3 eX2_digs_302 ?_
          refine M_call mb eX2_digs_303 lmX2_isGranted q2230 q2232 rfl qs82 (c_isGranted mb (p := p) (by omega)) rfl rfl rfl rfl ?_
          refine V_ifeq eX2_digs_306 (fun c306 => ?_) (fun c306 => ?_)
          · refine V_iconst (v := -1) (by decide) eX2_digs_322 ?_
            refine M_ss (n := ((23840 + (1000 * p)) + td)) mb (zadd (zadd rfl (zmul rfl rfl)) rfl) (by omega) eX2_digs_323 ?_
            obtain ⟨S_13, hS_13⟩ : ∃ T, T = va_up q270 ((23840 + (1000 * p)) + td) (-1 : Int32) := ⟨_, rfl⟩
            rw [← hS_13]
            have hnp_14 : S_13 2 = (nI np) := by rw [hS_13]; exact rdn (by omega) hnp_6
            have htd_15 : S_13 0 = (nI td) := by rw [hS_13]; exact rdn (by omega) htd_7
            refine V_iincN3 rfl eX2_digs_324 rfl ?_
            refine V_goto eX2_digs_327 ?_
            exact V.le (zle_c (zle_c (zle_n (zle_c (zle_n (zle_n zle_0)))))) (ih270 hl270 S_13 (by rw [zfold_s (n := p), ← hq270]; simp only [K_digs_270, ← hS_13, if_neg c298, if_pos c306]) hnp_14 htd_15 )
          · refine V_aload0 eX2_digs_309 rfl ?_
            refine M_ga mb rfl eX2_digs_310 fl_X2_8_2 ?_
            refine V_sipush (v := 970) (by decide) eX2_digs_313 ?_
            refine V_iload3 eX2_digs_316 ?_
            refine V_iadd eX2_digs_317 ?_
            refine M_sl (n := (970 + p)) mb (zadd rfl rfl) (by omega) rfl eX2_digs_318 ?_
            refine V_goto eX2_digs_319 ?_
            refine M_ss (n := ((23840 + (1000 * p)) + td)) mb (zadd (zadd rfl (zmul rfl rfl)) rfl) (by omega) eX2_digs_323 ?_
            obtain ⟨S_16, hS_16⟩ : ∃ T, T = va_up q270 ((23840 + (1000 * p)) + td) (q270 (970 + p)) := ⟨_, rfl⟩
            rw [← hS_16]
            have hnp_17 : S_16 2 = (nI np) := by rw [hS_16]; exact rdn (by omega) hnp_6
            have htd_18 : S_16 0 = (nI td) := by rw [hS_16]; exact rdn (by omega) htd_7
            refine V_iincN3 rfl eX2_digs_324 rfl ?_
            refine V_goto eX2_digs_327 ?_
            exact V.le (zle_c (zle_c (zle_n (zle_c (zle_n (zle_n zle_0)))))) (ih270 hl270 S_16 (by rw [zfold_s (n := p), ← hq270]; simp only [K_digs_270, ← hS_16, if_neg c298, if_neg c306]) hnp_17 htd_18 )
    · have hl215 : i < 12 := by have := nnle (a := 12) c218 (by omega) (by omega); omega
      refine V_aload0 eX2_digs_221 rfl ?_
      refine M_ga mb rfl eX2_digs_222 fl_X2_8_2 ?_
      refine V_sipush (v := 11840) (by decide) eX2_digs_225 ?_
      refine V_sipush (v := 1000) (by decide) eX2_digs_228 ?_
      refine V_iload3 eX2_digs_231 ?_
      refine V_imul eX2_digs_232 ?_
      refine V_iadd eX2_digs_233 ?_
      refine V_iload1 eX2_digs_234 ?_
      refine V_iadd eX2_digs_235 ?_
      refine V_iload3 eX2_digs_236 ?_
      refine V_aload0 eX2_digs_237 rfl ?_
      refine M_ga mb rfl eX2_digs_238 fl_X2_8_2 ?_
      refine V_bipush (v := 9) (by decide) eX2_digs_241 ?_
      refine M_sl (n := 9) mb rfl (by omega) rfl eX2_digs_243 ?_
      refine V_if_icmpge eX2_digs_244 (fun c244 => ?_) (fun c244 => ?_)
      · refine V_iconst (v := -1) (by decide) eX2_digs_260 ?_
        refine M_ss (n := ((11840 + (1000 * i)) + td)) mb (zadd (zadd rfl (zmul rfl rfl)) rfl) (by omega) eX2_digs_261 ?_
        obtain ⟨S_19, hS_19⟩ : ∃ T, T = va_up q215 ((11840 + (1000 * i)) + td) (-1 : Int32) := ⟨_, rfl⟩
        rw [← hS_19]
        have hnp_20 : S_19 2 = (nI np) := by rw [hS_19]; exact rdn (by omega) hnp_4
        have htd_21 : S_19 0 = (nI td) := by rw [hS_19]; exact rdn (by omega) htd_5
        refine V_iincN3 rfl eX2_digs_262 rfl ?_
        refine V_goto eX2_digs_265 ?_
        exact V.le (zle_c (zle_c (zle_n (zle_c (zle_n (zle_n zle_0)))))) (ih215 hl215 S_19 (by rw [zfold_s (n := i), ← hq215]; simp only [K_digs_215, ← hS_19, if_pos c244]) hnp_20 htd_21 )
      · refine V_aload0 eX2_digs_247 rfl ?_
        refine M_ga mb rfl eX2_digs_248 fl_X2_8_2 ?_
        refine V_sipush (v := 11502) (by decide) eX2_digs_251 ?_
        refine V_iload3 eX2_digs_254 ?_
        refine V_iadd eX2_digs_255 ?_
        refine M_sl (n := (11502 + i)) mb (zadd rfl rfl) (by omega) rfl eX2_digs_256 ?_
        refine V_goto eX2_digs_257 ?_
        refine M_ss (n := ((11840 + (1000 * i)) + td)) mb (zadd (zadd rfl (zmul rfl rfl)) rfl) (by omega) eX2_digs_261 ?_
        obtain ⟨S_22, hS_22⟩ : ∃ T, T = va_up q215 ((11840 + (1000 * i)) + td) (q215 (11502 + i)) := ⟨_, rfl⟩
        rw [← hS_22]
        have hnp_23 : S_22 2 = (nI np) := by rw [hS_22]; exact rdn (by omega) hnp_4
        have htd_24 : S_22 0 = (nI td) := by rw [hS_22]; exact rdn (by omega) htd_5
        refine V_iincN3 rfl eX2_digs_262 rfl ?_
        refine V_goto eX2_digs_265 ?_
        exact V.le (zle_c (zle_c (zle_n (zle_c (zle_n (zle_n zle_0)))))) (ih215 hl215 S_22 (by rw [zfold_s (n := i), ← hq215]; simp only [K_digs_215, ← hS_22, if_neg c244]) hnp_23 htd_24 )
  · have hl18 : i < np := by have := nnle c25 (by omega) (by omega); omega
    refine V_aload0 eX2_digs_28 rfl ?_
    refine V_iload3 eX2_digs_29 ?_
    refine M_call mb eX2_digs_30 lmX2_isGranted q2230 q2232 rfl qs82 (c_isGranted mb (p := i) (by omega)) rfl rfl rfl rfl ?_
    refine V_ifeq eX2_digs_33 (fun c33 => ?_) (fun c33 => ?_)
    · refine V_iincN3 rfl eX2_digs_207 rfl ?_
      refine V_goto eX2_digs_210 ?_
      exact V.le (zle_c (zle_c (zle_c (zle_c (zle_n (zle_n zle_0)))))) (ih18 hl18 (q18.1, q18.2) (by rw [zfold_s (n := i), ← hq18]; simp only [K_digs_18, if_pos c33]) hnp_1 htd_2 hfr_3 )
    · have hk3 : S (370 + i) = 3 := by
        have h1 := bI_n0.mp c33
        simp only [Bool.and_eq_true, decide_eq_true_eq] at h1
        rw [← hfr_3 (370 + i) (by omega)]; exact h1.1
      obtain ⟨pl, sc, g1, g2, g3, g4, g5⟩ := hob i hl18 hk3
      have f1 : q18.2 (430 + i) = nI pl := by rw [hfr_3 _ (by omega)]; exact g1
      have f2 : q18.2 (430 + pl) = nI sc := by rw [hfr_3 _ (by omega)]; exact g3
      have f3 : ∃ i, i < 12 ∧ q18.2 (11490 + i) = nI sc := by
        obtain ⟨k, k1, k2⟩ := g5
        exact ⟨k, k1, by rw [hfr_3 _ (by omega)]; exact k2⟩
      have hsI := (sI_lt (Nat.le_refl 12) f3).1
      have hpl : sn q18.2 (430 + i) = pl := sn_of f1 (by omega)
      have hsc : sn q18.2 (430 + pl) = sc := sn_of f2 (by omega)
      refine V_aload0 eX2_digs_36 rfl ?_
      refine M_ga mb rfl eX2_digs_37 fl_X2_8_2 ?_
      refine V_sipush (v := 970) (by decide) eX2_digs_40 ?_
      refine V_iload3 eX2_digs_43 ?_
      refine V_iadd eX2_digs_44 ?_
      refine M_sl (n := (970 + i)) mb (zadd rfl rfl) (by omega) rfl eX2_digs_45 ?_
      refine V_ifle eX2_digs_46 (fun c46 => ?_) (fun c46 => ?_)
      · refine V_iincN3 rfl eX2_digs_207 rfl ?_
        refine V_goto eX2_digs_210 ?_
        exact V.le (zle_c (zle_c (zle_c (zle_c (zle_n (zle_n zle_0)))))) (ih18 hl18 (q18.1, q18.2) (by rw [zfold_s (n := i), ← hq18]; simp only [K_digs_18, hpl, hsc, if_neg c33, if_pos c46]) hnp_1 htd_2 hfr_3 )
      · refine V_aload0 eX2_digs_49 rfl ?_
        refine V_aload0 eX2_digs_50 rfl ?_
        refine V_iload3 eX2_digs_51 ?_
        refine M_call mb eX2_digs_52 lmX2_schemeOf q2353 q2355 rfl qs95 (c_schemeOf mb (by omega) f1 g2) rfl rfl rfl rfl ?_
        rw [f2]
        refine M_call mb eX2_digs_55 lmX2_isFallen q2281 q2283 rfl qs87 (c_isFallen mb (p := sc) (by omega)) rfl rfl rfl rfl ?_
        refine V_ifne eX2_digs_58 (fun c58 => ?_) (fun c58 => ?_)
        · refine V_iincN3 rfl eX2_digs_207 rfl ?_
          refine V_goto eX2_digs_210 ?_
          exact V.le (zle_c (zle_c (zle_c (zle_c (zle_n (zle_n zle_0)))))) (ih18 hl18 (q18.1, q18.2) (by rw [zfold_s (n := i), ← hq18]; simp only [K_digs_18, hpl, hsc, if_neg c33, if_neg c46, if_neg c58]) hnp_1 htd_2 hfr_3 )
        · refine V_sipush (v := 11502) (by decide) eX2_digs_61 ?_
          refine V_aload0 eX2_digs_64 rfl ?_
          refine V_aload0 eX2_digs_65 rfl ?_
          refine V_iload3 eX2_digs_66 ?_
          refine M_call mb eX2_digs_67 lmX2_schemeOf q2353 q2355 rfl qs95 (c_schemeOf mb (by omega) f1 g2) rfl rfl rfl rfl ?_
          rw [f2]
          refine M_call mb eX2_digs_70 lmX2_indexOf q2289 q2291 rfl qs89 (c_indexOf mb f3) rfl rfl rfl rfl ?_
          refine V_iadd eX2_digs_73 ?_
          refine V_istore4 rfl eX2_digs_74 rfl ?_
          refine V_aload0 eX2_digs_76 rfl ?_
          refine M_ga mb rfl eX2_digs_77 fl_X2_8_2 ?_
          refine V_sipush (v := 970) (by decide) eX2_digs_80 ?_
          refine V_iload3 eX2_digs_83 ?_
          refine V_iadd eX2_digs_84 ?_
          refine M_sl (n := (970 + i)) mb (zadd rfl rfl) (by omega) rfl eX2_digs_85 ?_
          refine V_iload2 eX2_digs_86 ?_
          refine V_if_icmpge eX2_digs_87 (fun c87 => ?_) (fun c87 => ?_)
          · refine V_iload2 eX2_digs_103 ?_
            refine V_istore5 rfl eX2_digs_104 rfl ?_
            refine V_aload0 eX2_digs_106 rfl ?_
            refine M_ga mb rfl eX2_digs_107 fl_X2_8_2 ?_
            refine V_iload4 eX2_digs_110 ?_
            refine M_sl (n := (11502 + (sI q18.2 (nI sc)))) mb (zadd rfl rfl) (by omega) rfl eX2_digs_112 ?_
            refine V_iconst (v := 2) (by decide) eX2_digs_113 ?_
            refine V_idiv (by decide) eX2_digs_114 ?_
            refine V_iload5 eX2_digs_115 ?_
            refine V_if_icmpge eX2_digs_117 (fun c117 => ?_) (fun c117 => ?_)
            · refine V_iload5 eX2_digs_132 ?_
              refine V_istore5 rfl eX2_digs_134 rfl ?_
              refine V_iload2 eX2_digs_136 ?_
              refine V_iload5 eX2_digs_137 ?_
              refine V_isub eX2_digs_139 ?_
              refine V_istore2 rfl eX2_digs_140 rfl ?_
              refine V_aload0 eX2_digs_141 rfl ?_
              refine M_ga mb rfl eX2_digs_142 fl_X2_8_2 ?_
              refine V_iload4 eX2_digs_145 ?_
              refine V_dup2 rfl rfl eX2_digs_147 ?_
              refine M_sl (n := (11502 + (sI q18.2 (nI sc)))) mb (zadd rfl rfl) (by omega) rfl eX2_digs_148 ?_
              refine V_iconst (v := 2) (by decide) eX2_digs_149 ?_
              refine V_iload5 eX2_digs_150 ?_
              refine V_imul eX2_digs_152 ?_
              refine V_isub eX2_digs_153 ?_
              refine M_ss (n := (11502 + (sI q18.2 (nI sc)))) mb (zadd rfl rfl) (by omega) eX2_digs_154 ?_
              obtain ⟨S_25, hS_25⟩ : ∃ T, T = va_up q18.2 (11502 + (sI q18.2 (nI sc))) ((q18.2 (11502 + (sI q18.2 (nI sc)))) - ((2 : Int32) * q18.1)) := ⟨_, rfl⟩
              rw [← hS_25]
              have hnp_26 : S_25 2 = (nI np) := by rw [hS_25]; exact rdn (by omega) hnp_1
              have htd_27 : S_25 0 = (nI td) := by rw [hS_25]; exact rdn (by omega) htd_2
              have hfr_28 : ∀ j, (j < 970 ∨ 1090 ≤ j ∧ j < 11502 ∨ 11514 ≤ j) → S_25 j = S j := by rw [hS_25]; exact (fun j hj => by rw [va_up_ne _ _ (by omega)]; exact hfr_3 j hj)
              refine V_aload0 eX2_digs_155 rfl ?_
              refine M_ga mb rfl eX2_digs_156 fl_X2_8_2 ?_
              refine V_sipush (v := 970) (by decide) eX2_digs_159 ?_
              refine V_iload3 eX2_digs_162 ?_
              refine V_iadd eX2_digs_163 ?_
              refine V_dup2 rfl rfl eX2_digs_164 ?_
              refine M_sl (n := (970 + i)) mb (zadd rfl rfl) (by omega) rfl eX2_digs_165 ?_
              refine V_iload5 eX2_digs_166 ?_
              refine V_isub eX2_digs_168 ?_
              refine M_ss (n := (970 + i)) mb (zadd rfl rfl) (by omega) eX2_digs_169 ?_
              obtain ⟨S_29, hS_29⟩ : ∃ T, T = va_up S_25 (970 + i) ((S_25 (970 + i)) - q18.1) := ⟨_, rfl⟩
              rw [← hS_29]
              have hnp_30 : S_29 2 = (nI np) := by rw [hS_29]; exact rdn (by omega) hnp_26
              have htd_31 : S_29 0 = (nI td) := by rw [hS_29]; exact rdn (by omega) htd_27
              have hfr_32 : ∀ j, (j < 970 ∨ 1090 ≤ j ∧ j < 11502 ∨ 11514 ≤ j) → S_29 j = S j := by rw [hS_29]; exact (fun j hj => by rw [va_up_ne _ _ (by omega)]; exact hfr_28 j hj)
              refine V_aload0 eX2_digs_170 rfl ?_
              refine M_ga mb rfl eX2_digs_171 fl_X2_8_2 ?_
              refine V_sipush (v := 1030) (by decide) eX2_digs_174 ?_
              refine V_iload3 eX2_digs_177 ?_
              refine V_iadd eX2_digs_178 ?_
              refine V_aload0 eX2_digs_179 rfl ?_
              refine M_ga mb rfl eX2_digs_180 fl_X2_8_2 ?_
              refine V_sipush (v := 970) (by decide) eX2_digs_183 ?_
              refine V_iload3 eX2_digs_186 ?_
              refine V_iadd eX2_digs_187 ?_
              refine M_sl (n := (970 + i)) mb (zadd rfl rfl) (by omega) rfl eX2_digs_188 ?_
              refine V_ifne eX2_digs_189 (fun c189 => ?_) (fun c189 => ?_)
              · refine V_aload0 eX2_digs_196 rfl ?_
                refine M_ga mb rfl eX2_digs_197 fl_X2_8_2 ?_
                refine V_sipush (v := 1030) (by decide) eX2_digs_200 ?_
                refine V_iload3 eX2_digs_203 ?_
                refine V_iadd eX2_digs_204 ?_
                refine M_sl (n := (1030 + i)) mb (zadd rfl rfl) (by omega) rfl eX2_digs_205 ?_
                refine M_ss (n := (1030 + i)) mb (zadd rfl rfl) (by omega) eX2_digs_206 ?_
                obtain ⟨S_33, hS_33⟩ : ∃ T, T = va_up S_29 (1030 + i) (S_29 (1030 + i)) := ⟨_, rfl⟩
                rw [← hS_33]
                have hnp_34 : S_33 2 = (nI np) := by rw [hS_33]; exact rdn (by omega) hnp_30
                have htd_35 : S_33 0 = (nI td) := by rw [hS_33]; exact rdn (by omega) htd_31
                have hfr_36 : ∀ j, (j < 970 ∨ 1090 ≤ j ∧ j < 11502 ∨ 11514 ≤ j) → S_33 j = S j := by rw [hS_33]; exact (fun j hj => by rw [va_up_ne _ _ (by omega)]; exact hfr_32 j hj)
                refine V_iincN3 rfl eX2_digs_207 rfl ?_
                refine V_goto eX2_digs_210 ?_
                exact V.le (zle_c (zle_c (zle_c (zle_c (zle_n (zle_n zle_0)))))) (ih18 hl18 ((q18.1 - q18.1), S_33) (by rw [zfold_s (n := i), ← hq18]; simp only [K_digs_18, ← hS_25, ← hS_29, ← hS_33, hpl, hsc, if_neg c33, if_neg c46, if_pos c58, if_pos c87, if_pos c117, if_neg c189]) hnp_34 htd_35 hfr_36 )
              · refine V_iload1 eX2_digs_192 ?_
                refine V_goto eX2_digs_193 ?_
                refine M_ss (n := (1030 + i)) mb (zadd rfl rfl) (by omega) eX2_digs_206 ?_
                obtain ⟨S_37, hS_37⟩ : ∃ T, T = va_up S_29 (1030 + i) (nI td) := ⟨_, rfl⟩
                rw [← hS_37]
                have hnp_38 : S_37 2 = (nI np) := by rw [hS_37]; exact rdn (by omega) hnp_30
                have htd_39 : S_37 0 = (nI td) := by rw [hS_37]; exact rdn (by omega) htd_31
                have hfr_40 : ∀ j, (j < 970 ∨ 1090 ≤ j ∧ j < 11502 ∨ 11514 ≤ j) → S_37 j = S j := by rw [hS_37]; exact (fun j hj => by rw [va_up_ne _ _ (by omega)]; exact hfr_32 j hj)
                refine V_iincN3 rfl eX2_digs_207 rfl ?_
                refine V_goto eX2_digs_210 ?_
                exact V.le (zle_c (zle_c (zle_c (zle_c (zle_n (zle_n zle_0)))))) (ih18 hl18 ((q18.1 - q18.1), S_37) (by rw [zfold_s (n := i), ← hq18]; simp only [K_digs_18, ← hS_25, ← hS_29, ← hS_37, hpl, hsc, if_neg c33, if_neg c46, if_pos c58, if_pos c87, if_pos c117, if_pos c189]) hnp_38 htd_39 hfr_40 )
            · refine V_aload0 eX2_digs_120 rfl ?_
              refine M_ga mb rfl eX2_digs_121 fl_X2_8_2 ?_
              refine V_iload4 eX2_digs_124 ?_
              refine M_sl (n := (11502 + (sI q18.2 (nI sc)))) mb (zadd rfl rfl) (by omega) rfl eX2_digs_126 ?_
              refine V_iconst (v := 2) (by decide) eX2_digs_127 ?_
              refine V_idiv (by decide) eX2_digs_128 ?_
              refine V_goto eX2_digs_129 ?_
              refine V_istore5 rfl eX2_digs_134 rfl ?_
              refine V_iload2 eX2_digs_136 ?_
              refine V_iload5 eX2_digs_137 ?_
              refine V_isub eX2_digs_139 ?_
              refine V_istore2 rfl eX2_digs_140 rfl ?_
              refine V_aload0 eX2_digs_141 rfl ?_
              refine M_ga mb rfl eX2_digs_142 fl_X2_8_2 ?_
              refine V_iload4 eX2_digs_145 ?_
              refine V_dup2 rfl rfl eX2_digs_147 ?_
              refine M_sl (n := (11502 + (sI q18.2 (nI sc)))) mb (zadd rfl rfl) (by omega) rfl eX2_digs_148 ?_
              refine V_iconst (v := 2) (by decide) eX2_digs_149 ?_
              refine V_iload5 eX2_digs_150 ?_
              refine V_imul eX2_digs_152 ?_
              refine V_isub eX2_digs_153 ?_
              refine M_ss (n := (11502 + (sI q18.2 (nI sc)))) mb (zadd rfl rfl) (by omega) eX2_digs_154 ?_
              obtain ⟨S_41, hS_41⟩ : ∃ T, T = va_up q18.2 (11502 + (sI q18.2 (nI sc))) ((q18.2 (11502 + (sI q18.2 (nI sc)))) - ((2 : Int32) * ((q18.2 (11502 + (sI q18.2 (nI sc)))) / (2 : Int32)))) := ⟨_, rfl⟩
              rw [← hS_41]
              have hnp_42 : S_41 2 = (nI np) := by rw [hS_41]; exact rdn (by omega) hnp_1
              have htd_43 : S_41 0 = (nI td) := by rw [hS_41]; exact rdn (by omega) htd_2
              have hfr_44 : ∀ j, (j < 970 ∨ 1090 ≤ j ∧ j < 11502 ∨ 11514 ≤ j) → S_41 j = S j := by rw [hS_41]; exact (fun j hj => by rw [va_up_ne _ _ (by omega)]; exact hfr_3 j hj)
              refine V_aload0 eX2_digs_155 rfl ?_
              refine M_ga mb rfl eX2_digs_156 fl_X2_8_2 ?_
              refine V_sipush (v := 970) (by decide) eX2_digs_159 ?_
              refine V_iload3 eX2_digs_162 ?_
              refine V_iadd eX2_digs_163 ?_
              refine V_dup2 rfl rfl eX2_digs_164 ?_
              refine M_sl (n := (970 + i)) mb (zadd rfl rfl) (by omega) rfl eX2_digs_165 ?_
              refine V_iload5 eX2_digs_166 ?_
              refine V_isub eX2_digs_168 ?_
              refine M_ss (n := (970 + i)) mb (zadd rfl rfl) (by omega) eX2_digs_169 ?_
              obtain ⟨S_45, hS_45⟩ : ∃ T, T = va_up S_41 (970 + i) ((S_41 (970 + i)) - ((q18.2 (11502 + (sI q18.2 (nI sc)))) / (2 : Int32))) := ⟨_, rfl⟩
              rw [← hS_45]
              have hnp_46 : S_45 2 = (nI np) := by rw [hS_45]; exact rdn (by omega) hnp_42
              have htd_47 : S_45 0 = (nI td) := by rw [hS_45]; exact rdn (by omega) htd_43
              have hfr_48 : ∀ j, (j < 970 ∨ 1090 ≤ j ∧ j < 11502 ∨ 11514 ≤ j) → S_45 j = S j := by rw [hS_45]; exact (fun j hj => by rw [va_up_ne _ _ (by omega)]; exact hfr_44 j hj)
              refine V_aload0 eX2_digs_170 rfl ?_
              refine M_ga mb rfl eX2_digs_171 fl_X2_8_2 ?_
              refine V_sipush (v := 1030) (by decide) eX2_digs_174 ?_
              refine V_iload3 eX2_digs_177 ?_
              refine V_iadd eX2_digs_178 ?_
              refine V_aload0 eX2_digs_179 rfl ?_
              refine M_ga mb rfl eX2_digs_180 fl_X2_8_2 ?_
              refine V_sipush (v := 970) (by decide) eX2_digs_183 ?_
              refine V_iload3 eX2_digs_186 ?_
              refine V_iadd eX2_digs_187 ?_
              refine M_sl (n := (970 + i)) mb (zadd rfl rfl) (by omega) rfl eX2_digs_188 ?_
              refine V_ifne eX2_digs_189 (fun c189 => ?_) (fun c189 => ?_)
              · refine V_aload0 eX2_digs_196 rfl ?_
                refine M_ga mb rfl eX2_digs_197 fl_X2_8_2 ?_
                refine V_sipush (v := 1030) (by decide) eX2_digs_200 ?_
                refine V_iload3 eX2_digs_203 ?_
                refine V_iadd eX2_digs_204 ?_
                refine M_sl (n := (1030 + i)) mb (zadd rfl rfl) (by omega) rfl eX2_digs_205 ?_
                refine M_ss (n := (1030 + i)) mb (zadd rfl rfl) (by omega) eX2_digs_206 ?_
                obtain ⟨S_49, hS_49⟩ : ∃ T, T = va_up S_45 (1030 + i) (S_45 (1030 + i)) := ⟨_, rfl⟩
                rw [← hS_49]
                have hnp_50 : S_49 2 = (nI np) := by rw [hS_49]; exact rdn (by omega) hnp_46
                have htd_51 : S_49 0 = (nI td) := by rw [hS_49]; exact rdn (by omega) htd_47
                have hfr_52 : ∀ j, (j < 970 ∨ 1090 ≤ j ∧ j < 11502 ∨ 11514 ≤ j) → S_49 j = S j := by rw [hS_49]; exact (fun j hj => by rw [va_up_ne _ _ (by omega)]; exact hfr_48 j hj)
                refine V_iincN3 rfl eX2_digs_207 rfl ?_
                refine V_goto eX2_digs_210 ?_
                exact V.le (zle_c (zle_c (zle_c (zle_c (zle_n (zle_n zle_0)))))) (ih18 hl18 ((q18.1 - ((q18.2 (11502 + (sI q18.2 (nI sc)))) / (2 : Int32))), S_49) (by rw [zfold_s (n := i), ← hq18]; simp only [K_digs_18, ← hS_41, ← hS_45, ← hS_49, hpl, hsc, if_neg c33, if_neg c46, if_pos c58, if_pos c87, if_neg c117, if_neg c189]) hnp_50 htd_51 hfr_52 )
              · refine V_iload1 eX2_digs_192 ?_
                refine V_goto eX2_digs_193 ?_
                refine M_ss (n := (1030 + i)) mb (zadd rfl rfl) (by omega) eX2_digs_206 ?_
                obtain ⟨S_53, hS_53⟩ : ∃ T, T = va_up S_45 (1030 + i) (nI td) := ⟨_, rfl⟩
                rw [← hS_53]
                have hnp_54 : S_53 2 = (nI np) := by rw [hS_53]; exact rdn (by omega) hnp_46
                have htd_55 : S_53 0 = (nI td) := by rw [hS_53]; exact rdn (by omega) htd_47
                have hfr_56 : ∀ j, (j < 970 ∨ 1090 ≤ j ∧ j < 11502 ∨ 11514 ≤ j) → S_53 j = S j := by rw [hS_53]; exact (fun j hj => by rw [va_up_ne _ _ (by omega)]; exact hfr_48 j hj)
                refine V_iincN3 rfl eX2_digs_207 rfl ?_
                refine V_goto eX2_digs_210 ?_
                exact V.le (zle_c (zle_c (zle_c (zle_c (zle_n (zle_n zle_0)))))) (ih18 hl18 ((q18.1 - ((q18.2 (11502 + (sI q18.2 (nI sc)))) / (2 : Int32))), S_53) (by rw [zfold_s (n := i), ← hq18]; simp only [K_digs_18, ← hS_41, ← hS_45, ← hS_53, hpl, hsc, if_neg c33, if_neg c46, if_pos c58, if_pos c87, if_neg c117, if_pos c189]) hnp_54 htd_55 hfr_56 )
          · refine V_aload0 eX2_digs_90 rfl ?_
            refine M_ga mb rfl eX2_digs_91 fl_X2_8_2 ?_
            refine V_sipush (v := 970) (by decide) eX2_digs_94 ?_
            refine V_iload3 eX2_digs_97 ?_
            refine V_iadd eX2_digs_98 ?_
            refine M_sl (n := (970 + i)) mb (zadd rfl rfl) (by omega) rfl eX2_digs_99 ?_
            refine V_goto eX2_digs_100 ?_
            refine V_istore5 rfl eX2_digs_104 rfl ?_
            refine V_aload0 eX2_digs_106 rfl ?_
            refine M_ga mb rfl eX2_digs_107 fl_X2_8_2 ?_
            refine V_iload4 eX2_digs_110 ?_
            refine M_sl (n := (11502 + (sI q18.2 (nI sc)))) mb (zadd rfl rfl) (by omega) rfl eX2_digs_112 ?_
            refine V_iconst (v := 2) (by decide) eX2_digs_113 ?_
            refine V_idiv (by decide) eX2_digs_114 ?_
            refine V_iload5 eX2_digs_115 ?_
            refine V_if_icmpge eX2_digs_117 (fun c117 => ?_) (fun c117 => ?_)
            · refine V_iload5 eX2_digs_132 ?_
              refine V_istore5 rfl eX2_digs_134 rfl ?_
              refine V_iload2 eX2_digs_136 ?_
              refine V_iload5 eX2_digs_137 ?_
              refine V_isub eX2_digs_139 ?_
              refine V_istore2 rfl eX2_digs_140 rfl ?_
              refine V_aload0 eX2_digs_141 rfl ?_
              refine M_ga mb rfl eX2_digs_142 fl_X2_8_2 ?_
              refine V_iload4 eX2_digs_145 ?_
              refine V_dup2 rfl rfl eX2_digs_147 ?_
              refine M_sl (n := (11502 + (sI q18.2 (nI sc)))) mb (zadd rfl rfl) (by omega) rfl eX2_digs_148 ?_
              refine V_iconst (v := 2) (by decide) eX2_digs_149 ?_
              refine V_iload5 eX2_digs_150 ?_
              refine V_imul eX2_digs_152 ?_
              refine V_isub eX2_digs_153 ?_
              refine M_ss (n := (11502 + (sI q18.2 (nI sc)))) mb (zadd rfl rfl) (by omega) eX2_digs_154 ?_
              obtain ⟨S_57, hS_57⟩ : ∃ T, T = va_up q18.2 (11502 + (sI q18.2 (nI sc))) ((q18.2 (11502 + (sI q18.2 (nI sc)))) - ((2 : Int32) * (q18.2 (970 + i)))) := ⟨_, rfl⟩
              rw [← hS_57]
              have hnp_58 : S_57 2 = (nI np) := by rw [hS_57]; exact rdn (by omega) hnp_1
              have htd_59 : S_57 0 = (nI td) := by rw [hS_57]; exact rdn (by omega) htd_2
              have hfr_60 : ∀ j, (j < 970 ∨ 1090 ≤ j ∧ j < 11502 ∨ 11514 ≤ j) → S_57 j = S j := by rw [hS_57]; exact (fun j hj => by rw [va_up_ne _ _ (by omega)]; exact hfr_3 j hj)
              refine V_aload0 eX2_digs_155 rfl ?_
              refine M_ga mb rfl eX2_digs_156 fl_X2_8_2 ?_
              refine V_sipush (v := 970) (by decide) eX2_digs_159 ?_
              refine V_iload3 eX2_digs_162 ?_
              refine V_iadd eX2_digs_163 ?_
              refine V_dup2 rfl rfl eX2_digs_164 ?_
              refine M_sl (n := (970 + i)) mb (zadd rfl rfl) (by omega) rfl eX2_digs_165 ?_
              refine V_iload5 eX2_digs_166 ?_
              refine V_isub eX2_digs_168 ?_
              refine M_ss (n := (970 + i)) mb (zadd rfl rfl) (by omega) eX2_digs_169 ?_
              obtain ⟨S_61, hS_61⟩ : ∃ T, T = va_up S_57 (970 + i) ((S_57 (970 + i)) - (q18.2 (970 + i))) := ⟨_, rfl⟩
              rw [← hS_61]
              have hnp_62 : S_61 2 = (nI np) := by rw [hS_61]; exact rdn (by omega) hnp_58
              have htd_63 : S_61 0 = (nI td) := by rw [hS_61]; exact rdn (by omega) htd_59
              have hfr_64 : ∀ j, (j < 970 ∨ 1090 ≤ j ∧ j < 11502 ∨ 11514 ≤ j) → S_61 j = S j := by rw [hS_61]; exact (fun j hj => by rw [va_up_ne _ _ (by omega)]; exact hfr_60 j hj)
              refine V_aload0 eX2_digs_170 rfl ?_
              refine M_ga mb rfl eX2_digs_171 fl_X2_8_2 ?_
              refine V_sipush (v := 1030) (by decide) eX2_digs_174 ?_
              refine V_iload3 eX2_digs_177 ?_
              refine V_iadd eX2_digs_178 ?_
              refine V_aload0 eX2_digs_179 rfl ?_
              refine M_ga mb rfl eX2_digs_180 fl_X2_8_2 ?_
              refine V_sipush (v := 970) (by decide) eX2_digs_183 ?_
              refine V_iload3 eX2_digs_186 ?_
              refine V_iadd eX2_digs_187 ?_
              refine M_sl (n := (970 + i)) mb (zadd rfl rfl) (by omega) rfl eX2_digs_188 ?_
              refine V_ifne eX2_digs_189 (fun c189 => ?_) (fun c189 => ?_)
              · refine V_aload0 eX2_digs_196 rfl ?_
                refine M_ga mb rfl eX2_digs_197 fl_X2_8_2 ?_
                refine V_sipush (v := 1030) (by decide) eX2_digs_200 ?_
                refine V_iload3 eX2_digs_203 ?_
                refine V_iadd eX2_digs_204 ?_
                refine M_sl (n := (1030 + i)) mb (zadd rfl rfl) (by omega) rfl eX2_digs_205 ?_
                refine M_ss (n := (1030 + i)) mb (zadd rfl rfl) (by omega) eX2_digs_206 ?_
                obtain ⟨S_65, hS_65⟩ : ∃ T, T = va_up S_61 (1030 + i) (S_61 (1030 + i)) := ⟨_, rfl⟩
                rw [← hS_65]
                have hnp_66 : S_65 2 = (nI np) := by rw [hS_65]; exact rdn (by omega) hnp_62
                have htd_67 : S_65 0 = (nI td) := by rw [hS_65]; exact rdn (by omega) htd_63
                have hfr_68 : ∀ j, (j < 970 ∨ 1090 ≤ j ∧ j < 11502 ∨ 11514 ≤ j) → S_65 j = S j := by rw [hS_65]; exact (fun j hj => by rw [va_up_ne _ _ (by omega)]; exact hfr_64 j hj)
                refine V_iincN3 rfl eX2_digs_207 rfl ?_
                refine V_goto eX2_digs_210 ?_
                exact V.le (zle_c (zle_c (zle_c (zle_c (zle_n (zle_n zle_0)))))) (ih18 hl18 ((q18.1 - (q18.2 (970 + i))), S_65) (by rw [zfold_s (n := i), ← hq18]; simp only [K_digs_18, ← hS_57, ← hS_61, ← hS_65, hpl, hsc, if_neg c33, if_neg c46, if_pos c58, if_neg c87, if_pos c117, if_neg c189]) hnp_66 htd_67 hfr_68 )
              · refine V_iload1 eX2_digs_192 ?_
                refine V_goto eX2_digs_193 ?_
                refine M_ss (n := (1030 + i)) mb (zadd rfl rfl) (by omega) eX2_digs_206 ?_
                obtain ⟨S_69, hS_69⟩ : ∃ T, T = va_up S_61 (1030 + i) (nI td) := ⟨_, rfl⟩
                rw [← hS_69]
                have hnp_70 : S_69 2 = (nI np) := by rw [hS_69]; exact rdn (by omega) hnp_62
                have htd_71 : S_69 0 = (nI td) := by rw [hS_69]; exact rdn (by omega) htd_63
                have hfr_72 : ∀ j, (j < 970 ∨ 1090 ≤ j ∧ j < 11502 ∨ 11514 ≤ j) → S_69 j = S j := by rw [hS_69]; exact (fun j hj => by rw [va_up_ne _ _ (by omega)]; exact hfr_64 j hj)
                refine V_iincN3 rfl eX2_digs_207 rfl ?_
                refine V_goto eX2_digs_210 ?_
                exact V.le (zle_c (zle_c (zle_c (zle_c (zle_n (zle_n zle_0)))))) (ih18 hl18 ((q18.1 - (q18.2 (970 + i))), S_69) (by rw [zfold_s (n := i), ← hq18]; simp only [K_digs_18, ← hS_57, ← hS_61, ← hS_69, hpl, hsc, if_neg c33, if_neg c46, if_pos c58, if_neg c87, if_pos c117, if_pos c189]) hnp_70 htd_71 hfr_72 )
            · refine V_aload0 eX2_digs_120 rfl ?_
              refine M_ga mb rfl eX2_digs_121 fl_X2_8_2 ?_
              refine V_iload4 eX2_digs_124 ?_
              refine M_sl (n := (11502 + (sI q18.2 (nI sc)))) mb (zadd rfl rfl) (by omega) rfl eX2_digs_126 ?_
              refine V_iconst (v := 2) (by decide) eX2_digs_127 ?_
              refine V_idiv (by decide) eX2_digs_128 ?_
              refine V_goto eX2_digs_129 ?_
              refine V_istore5 rfl eX2_digs_134 rfl ?_
              refine V_iload2 eX2_digs_136 ?_
              refine V_iload5 eX2_digs_137 ?_
              refine V_isub eX2_digs_139 ?_
              refine V_istore2 rfl eX2_digs_140 rfl ?_
              refine V_aload0 eX2_digs_141 rfl ?_
              refine M_ga mb rfl eX2_digs_142 fl_X2_8_2 ?_
              refine V_iload4 eX2_digs_145 ?_
              refine V_dup2 rfl rfl eX2_digs_147 ?_
              refine M_sl (n := (11502 + (sI q18.2 (nI sc)))) mb (zadd rfl rfl) (by omega) rfl eX2_digs_148 ?_
              refine V_iconst (v := 2) (by decide) eX2_digs_149 ?_
              refine V_iload5 eX2_digs_150 ?_
              refine V_imul eX2_digs_152 ?_
              refine V_isub eX2_digs_153 ?_
              refine M_ss (n := (11502 + (sI q18.2 (nI sc)))) mb (zadd rfl rfl) (by omega) eX2_digs_154 ?_
              obtain ⟨S_73, hS_73⟩ : ∃ T, T = va_up q18.2 (11502 + (sI q18.2 (nI sc))) ((q18.2 (11502 + (sI q18.2 (nI sc)))) - ((2 : Int32) * ((q18.2 (11502 + (sI q18.2 (nI sc)))) / (2 : Int32)))) := ⟨_, rfl⟩
              rw [← hS_73]
              have hnp_74 : S_73 2 = (nI np) := by rw [hS_73]; exact rdn (by omega) hnp_1
              have htd_75 : S_73 0 = (nI td) := by rw [hS_73]; exact rdn (by omega) htd_2
              have hfr_76 : ∀ j, (j < 970 ∨ 1090 ≤ j ∧ j < 11502 ∨ 11514 ≤ j) → S_73 j = S j := by rw [hS_73]; exact (fun j hj => by rw [va_up_ne _ _ (by omega)]; exact hfr_3 j hj)
              refine V_aload0 eX2_digs_155 rfl ?_
              refine M_ga mb rfl eX2_digs_156 fl_X2_8_2 ?_
              refine V_sipush (v := 970) (by decide) eX2_digs_159 ?_
              refine V_iload3 eX2_digs_162 ?_
              refine V_iadd eX2_digs_163 ?_
              refine V_dup2 rfl rfl eX2_digs_164 ?_
              refine M_sl (n := (970 + i)) mb (zadd rfl rfl) (by omega) rfl eX2_digs_165 ?_
              refine V_iload5 eX2_digs_166 ?_
              refine V_isub eX2_digs_168 ?_
              refine M_ss (n := (970 + i)) mb (zadd rfl rfl) (by omega) eX2_digs_169 ?_
              obtain ⟨S_77, hS_77⟩ : ∃ T, T = va_up S_73 (970 + i) ((S_73 (970 + i)) - ((q18.2 (11502 + (sI q18.2 (nI sc)))) / (2 : Int32))) := ⟨_, rfl⟩
              rw [← hS_77]
              have hnp_78 : S_77 2 = (nI np) := by rw [hS_77]; exact rdn (by omega) hnp_74
              have htd_79 : S_77 0 = (nI td) := by rw [hS_77]; exact rdn (by omega) htd_75
              have hfr_80 : ∀ j, (j < 970 ∨ 1090 ≤ j ∧ j < 11502 ∨ 11514 ≤ j) → S_77 j = S j := by rw [hS_77]; exact (fun j hj => by rw [va_up_ne _ _ (by omega)]; exact hfr_76 j hj)
              refine V_aload0 eX2_digs_170 rfl ?_
              refine M_ga mb rfl eX2_digs_171 fl_X2_8_2 ?_
              refine V_sipush (v := 1030) (by decide) eX2_digs_174 ?_
              refine V_iload3 eX2_digs_177 ?_
              refine V_iadd eX2_digs_178 ?_
              refine V_aload0 eX2_digs_179 rfl ?_
              refine M_ga mb rfl eX2_digs_180 fl_X2_8_2 ?_
              refine V_sipush (v := 970) (by decide) eX2_digs_183 ?_
              refine V_iload3 eX2_digs_186 ?_
              refine V_iadd eX2_digs_187 ?_
              refine M_sl (n := (970 + i)) mb (zadd rfl rfl) (by omega) rfl eX2_digs_188 ?_
              refine V_ifne eX2_digs_189 (fun c189 => ?_) (fun c189 => ?_)
              · refine V_aload0 eX2_digs_196 rfl ?_
                refine M_ga mb rfl eX2_digs_197 fl_X2_8_2 ?_
                refine V_sipush (v := 1030) (by decide) eX2_digs_200 ?_
                refine V_iload3 eX2_digs_203 ?_
                refine V_iadd eX2_digs_204 ?_
                refine M_sl (n := (1030 + i)) mb (zadd rfl rfl) (by omega) rfl eX2_digs_205 ?_
                refine M_ss (n := (1030 + i)) mb (zadd rfl rfl) (by omega) eX2_digs_206 ?_
                obtain ⟨S_81, hS_81⟩ : ∃ T, T = va_up S_77 (1030 + i) (S_77 (1030 + i)) := ⟨_, rfl⟩
                rw [← hS_81]
                have hnp_82 : S_81 2 = (nI np) := by rw [hS_81]; exact rdn (by omega) hnp_78
                have htd_83 : S_81 0 = (nI td) := by rw [hS_81]; exact rdn (by omega) htd_79
                have hfr_84 : ∀ j, (j < 970 ∨ 1090 ≤ j ∧ j < 11502 ∨ 11514 ≤ j) → S_81 j = S j := by rw [hS_81]; exact (fun j hj => by rw [va_up_ne _ _ (by omega)]; exact hfr_80 j hj)
                refine V_iincN3 rfl eX2_digs_207 rfl ?_
                refine V_goto eX2_digs_210 ?_
                exact V.le (zle_c (zle_c (zle_c (zle_c (zle_n (zle_n zle_0)))))) (ih18 hl18 ((q18.1 - ((q18.2 (11502 + (sI q18.2 (nI sc)))) / (2 : Int32))), S_81) (by rw [zfold_s (n := i), ← hq18]; simp only [K_digs_18, ← hS_73, ← hS_77, ← hS_81, hpl, hsc, if_neg c33, if_neg c46, if_pos c58, if_neg c87, if_neg c117, if_neg c189]) hnp_82 htd_83 hfr_84 )
              · refine V_iload1 eX2_digs_192 ?_
                refine V_goto eX2_digs_193 ?_
                refine M_ss (n := (1030 + i)) mb (zadd rfl rfl) (by omega) eX2_digs_206 ?_
                obtain ⟨S_85, hS_85⟩ : ∃ T, T = va_up S_77 (1030 + i) (nI td) := ⟨_, rfl⟩
                rw [← hS_85]
                have hnp_86 : S_85 2 = (nI np) := by rw [hS_85]; exact rdn (by omega) hnp_78
                have htd_87 : S_85 0 = (nI td) := by rw [hS_85]; exact rdn (by omega) htd_79
                have hfr_88 : ∀ j, (j < 970 ∨ 1090 ≤ j ∧ j < 11502 ∨ 11514 ≤ j) → S_85 j = S j := by rw [hS_85]; exact (fun j hj => by rw [va_up_ne _ _ (by omega)]; exact hfr_80 j hj)
                refine V_iincN3 rfl eX2_digs_207 rfl ?_
                refine V_goto eX2_digs_210 ?_
                exact V.le (zle_c (zle_c (zle_c (zle_c (zle_n (zle_n zle_0)))))) (ih18 hl18 ((q18.1 - ((q18.2 (11502 + (sI q18.2 (nI sc)))) / (2 : Int32))), S_85) (by rw [zfold_s (n := i), ← hq18]; simp only [K_digs_18, ← hS_73, ← hS_77, ← hS_85, hpl, hsc, if_neg c33, if_neg c46, if_pos c58, if_neg c87, if_neg c117, if_pos c189]) hnp_86 htd_87 hfr_88 )

