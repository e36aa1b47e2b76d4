/-! texts: their length and letters -/
theorem V_nreturn {w : Wd} {mi : Mi} {cc : ByteArray} {L cb sb : Nat} {h : Hp} {pc pc' : Nat} {ls : List (Option Value)} {Q : Outcome → Hp → Prop} {x : Int32} {ty : FieldType} (d : Dc cc pc .ireturn 1 pc') (hr : mi.2.2.1 = some ty) (hn : narrow ty (.int x) = .int x) (q : Q (.returned (some (.int x))) h) : V w mi cc L cb sb h pc ls [.int x] Q := by
  obtain ⟨d, rfl⟩ := d
  intro p l e R s m args below meth c H locs cells slots lsA F a1 a2 a3 a4 a5 a6 hl
  obtain ⟨f1, f2, -, f4, f5, -⟩ := id F
  exact zend (by omega) (by omega) (W.zret f1 f2 (f4.trans hr) hn (fun t ht _ => ⟨h, by rw [ht]; exact a1, q⟩) a2 d f5)
def ztx : Nat → List Nat := fun i => match i with | 0 => [115, 108, 111, 112, 101, 32] | 1 => [99, 108, 111, 115, 101, 32] | 2 => [115, 116, 114, 111, 107, 101, 32] | 3 => [99, 97, 108, 108, 32] | 4 => [103, 97, 112, 32] | 5 => [112, 97, 114, 107, 32] | _ => [108, 101, 116, 32]
def sln (i : Nat) : Nat := (ztx i).length
def sby (i j : Nat) : Nat := (ztx i).getD j 0
theorem sln_le : ∀ i, i < 7 → sln i ≤ 7 := by decide +kernel
theorem sby_lt : ∀ i, i < 7 → ∀ j, j < 8 → sby i j < 128 := by decide +kernel
def SB (w : Wd) (h : Hp) : Prop := ∀ i, i < 7 → hT h (w.K (20 + i)) = 702 ∧ w.K (20 + i) < hZ h ∧ hN h (w.K (20 + i)) = sln i ∧ ∀ j, j < sln i → hI h (w.K (20 + i)) j = nI (sby i j)
theorem SB.ms {w : Wd} {h : Hp} (b : SB w h) {A : Nat → Nat → Int32} {B : Nat → Nat → Int64} {F S : Nat → Int32} : SB w (ms h A B F S) := fun i hi => by
  obtain ⟨h1, h2, h3, h4⟩ := b i hi
  refine ⟨h1, h2, h3, fun j hj => ?_⟩
  rw [ms_I, h1]
  exact h4 j hj
section TX
variable {w : Wd} {h : Hp} {i : Nat}
theorem c_coder (hi : i < 7) : Con w mJ10_coder cJ10_coder 1 0 0 [.ref (w.K (10 + i))] h (Rv (.int 0) h) := by
  refine Con.of (by decide +kernel) rfl rfl ?_
  show V w mJ10_coder cJ10_coder 1 0 0 _ 0 [some (.ref (w.K (10 + i)))] [] _
  refine V_getstatic (v := .int 1) eJ10_coder_0 (by simp [zst]) q1419 ?_
  refine V_ifeq eJ10_coder_3 (fun c => absurd c (by decide)) (fun c => ?_)
  refine V_aload0 eJ10_coder_6 rfl ?_
  refine V_getSc hi eJ10_coder_7 q2474 ?_
  refine V_goto eJ10_coder_10 ?_
  exact V_nreturn eJ10_coder_14 rfl rfl ⟨rfl, rfl⟩
theorem c_isLatin1 (hi : i < 7) : Con w mJ10_isLatin1 cJ10_isLatin1 1 0 0 [.ref (w.K (10 + i))] h (Rv (.int 1) h) := by
  refine Con.of (by decide +kernel) rfl rfl ?_
  show V w mJ10_isLatin1 cJ10_isLatin1 1 0 0 _ 0 [some (.ref (w.K (10 + i)))] [] _
  refine V_getstatic (v := .int 1) eJ10_isLatin1_0 (by simp [zst]) q1419 ?_
  refine V_ifeq eJ10_isLatin1_3 (fun c => absurd c (by decide)) (fun c => ?_)
  refine V_aload0 eJ10_isLatin1_6 rfl ?_
  refine V_getSc hi eJ10_isLatin1_7 q2474 ?_
  refine V_ifne eJ10_isLatin1_10 (fun c => absurd rfl c) (fun c => ?_)
  refine V_iconst (v := 1) (by decide) eJ10_isLatin1_13 ?_
  refine V_goto eJ10_isLatin1_14 ?_
  exact V_zreturn eJ10_isLatin1_18 rfl (by decide) ⟨rfl, rfl⟩
theorem c_sLen (b : SB w h) (hi : i < 7) : Con w mJ10_length cJ10_length 2 0 0 [.ref (w.K (10 + i))] h (Rv (.int (nI (sln i))) h) := by
  refine Con.of (by decide +kernel) rfl rfl ?_
  show V w mJ10_length cJ10_length 2 0 0 _ 0 [some (.ref (w.K (10 + i)))] [] _
  obtain ⟨b1, b2, b3, b4⟩ := b i hi
  refine V_aload0 eJ10_length_0 rfl ?_
  refine V_getSv hi eJ10_length_1 q2473 ?_
  refine V_arraylength (κ := 702) (c := 2) eJ10_length_4 b2 (by rw [b1]; rfl) rfl b3 ?_
  refine V_aload0 eJ10_length_5 rfl ?_
  refine V_invokevirtualS (cb' := 0) (sb' := 0) (as := []) hi eJ10_length_6 lmJ10_coder q2023 q2024 rfl q2025 (c_coder hi) (hRet_v _ _) rfl rfl rfl rfl (kRv (P := fun v h' => V w mJ10_length cJ10_length 2 0 0 h' 9 [some (.ref (w.K (10 + i)))] (v.toList ++ [.int (nI (sln i))]) _) ?_)
  refine V_ishr eJ10_length_9 ?_
  have e : nI (sln i) >>> ((0 : Int32) &&& 31) = nI (sln i) := by
    have := sln_le i hi
    have h7 : ∀ k, k ≤ 7 → nI k >>> ((0 : Int32) &&& 31) = nI k := by decide +kernel
    exact h7 _ this
  rw [e]
  exact V_ireturn eJ10_length_10 rfl ⟨rfl, rfl⟩
theorem c_ckIx {x n : Nat} (hx : x < n) (hn : n < 2 ^ 31) (r : Option Nat) : Con w mJ4_checkIndex cJ4_checkIndex 1 0 0 [.int (nI x), .int (nI n), va_rf r] h (Rv (.int (nI x)) h) := by
  refine Con.of (by decide +kernel) (by cases r <;> rfl) (by cases r <;> rfl) (ls := [some (.int (nI x)), some (.int (nI n)), some (va_rf r)]) ?_
  refine V_iload0 eJ4_checkIndex_0 ?_
  refine V_iflt eJ4_checkIndex_1 (fun c => absurd c (nI_pos (by omega))) (fun c => ?_)
  refine V_iload0 eJ4_checkIndex_4 ?_
  refine V_iload1 eJ4_checkIndex_5 ?_
  refine V_if_icmplt eJ4_checkIndex_6 (fun c => ?_) (fun c => absurd ((nI_ltI (by omega) hn).mpr hx) c)
  refine V_iload0 eJ4_checkIndex_16 ?_
  exact V_ireturn eJ4_checkIndex_17 rfl ⟨rfl, rfl⟩
theorem c_sCk {x n : Nat} (hx : x < n) (hn : n < 2 ^ 31) : Con w mJ10_checkIndex cJ10_checkIndex 2 0 0 [.int (nI x), .int (nI n)] h (Ru h) := by
  refine Con.of (by decide +kernel) rfl rfl ?_
  show V w mJ10_checkIndex cJ10_checkIndex 2 0 0 _ 0 [some (.int (nI x)), some (.int (nI n))] [] _
  refine V_iload0 eJ10_checkIndex_0 ?_
  refine V_iload1 eJ10_checkIndex_1 ?_
  refine V_getstatic (v := va_rf (wO w 3)) eJ10_checkIndex_2 (by simp [zst]) q2041 ?_
  refine C_static (cb' := 0) (sb' := 0) (as := [.int (nI x), .int (nI n), va_rf (wO w 3)]) eJ10_checkIndex_5 lmJ4_checkIndex q2043 q168 (c_ckIx hx hn (wO w 3)) rfl rfl rfl rfl ?_
  refine V_pop rfl eJ10_checkIndex_8 ?_
  exact V_return (x := ()) eJ10_checkIndex_9 rfl ⟨rfl, rfl⟩
theorem c_lChar (b : SB w h) (hi : i < 7) {j : Nat} (hj : j < sln i) : Con w mJ11_charAt cJ11_charAt 3 0 0 [.ref (w.K (20 + i)), .int (nI j)] h (Rv (.int (nI (sby i j))) h) := by
  refine Con.of (by decide +kernel) rfl rfl ?_
  show V w mJ11_charAt cJ11_charAt 3 0 0 _ 0 [some (.ref (w.K (20 + i))), some (.int (nI j))] [] _
  obtain ⟨b1, b2, b3, b4⟩ := b i hi
  have h7 := sln_le i hi
  refine V_iload1 eJ11_charAt_0 ?_
  refine V_aload0 eJ11_charAt_1 rfl ?_
  refine V_arraylength (κ := 702) (c := 2) eJ11_charAt_2 b2 (by rw [b1]; rfl) rfl b3 ?_
  refine V_invokestatic (cb' := 0) (sb' := 0) (as := [.int (nI j), .int (nI (sln i))]) eJ11_charAt_3 lmJ10_checkIndex q2038 q2039 (c_sCk hj (by omega)) (hRet_u _) rfl rfl rfl rfl (kRu (P := fun v h' => V w mJ11_charAt cJ11_charAt 3 0 0 h' 6 [some (.ref (w.K (20 + i))), some (.int (nI j))] (v.toList ++ []) _) ?_)
  refine V_aload0 eJ11_charAt_6 rfl ?_
  refine V_iload1 eJ11_charAt_7 ?_
  obtain ⟨z1, z2⟩ := zin_nI (i := nI j) rfl (show j < sln i from hj) (by omega)
  refine V_baload (κ := 702) (n := j) eJ11_charAt_8 b2 (by rw [b1]; rfl) rfl (by rw [b3]; exact z1) z2 ?_
  rw [b4 j hj]
  refine V_sipush (v := 255) (by decide) eJ11_charAt_9 ?_
  refine V_iand eJ11_charAt_12 ?_
  refine V_i2c eJ11_charAt_13 ?_
  have h8 := sby_lt i hi j (by omega)
  have e : ∀ k, k < 128 → ((nI k &&& 255).toUInt32 % 65536).toInt32 = nI k := by decide +kernel
  have e2 : ∀ k, k < 128 → narrow .char (.int (nI k)) = .int (nI k) := by decide +kernel
  rw [e _ h8]
  exact V_nreturn eJ11_charAt_14 rfl (e2 _ h8) ⟨rfl, rfl⟩
theorem c_sChar (b : SB w h) (hi : i < 7) {j : Nat} (hj : j < sln i) : Con w mJ10_charAt cJ10_charAt 4 0 0 [.ref (w.K (10 + i)), .int (nI j)] h (Rv (.int (nI (sby i j))) h) := by
  refine Con.of (by decide +kernel) rfl rfl ?_
  show V w mJ10_charAt cJ10_charAt 4 0 0 _ 0 [some (.ref (w.K (10 + i))), some (.int (nI j))] [] _
  have h7 := sln_le i hi
  refine V_aload0 eJ10_charAt_0 rfl ?_
  refine V_invokevirtualS (cb' := 0) (sb' := 0) (as := []) hi eJ10_charAt_1 lmJ10_isLatin1 q2031 q2032 rfl q2033 (c_isLatin1 hi) (hRet_v _ _) rfl rfl rfl rfl (kRv (P := fun v h' => V w mJ10_charAt cJ10_charAt 4 0 0 h' 4 [some (.ref (w.K (10 + i))), some (.int (nI j))] (v.toList ++ []) _) ?_)
  refine V_ifeq eJ10_charAt_4 (fun c => absurd c (by decide)) (fun c => ?_)
  refine V_aload0 eJ10_charAt_7 rfl ?_
  refine V_getSv hi eJ10_charAt_8 q2473 ?_
  refine V_iload1 eJ10_charAt_11 ?_
  refine C_static (cb' := 0) (sb' := 0) (as := [.ref (w.K (20 + i)), .int (nI j)]) eJ10_charAt_12 lmJ11_charAt q2035 q2036 (c_lChar b hi hj) rfl rfl rfl rfl ?_
  have h8 := sby_lt i hi j (by omega)
  have e2 : ∀ k, k < 128 → narrow .char (.int (nI k)) = .int (nI k) := by decide +kernel
  exact V_nreturn eJ10_charAt_15 rfl (e2 _ h8) ⟨rfl, rfl⟩
theorem c_word (hi : i < 7) : Con w mX2_word cX2_word 1 0 0 [.int (nI i)] h (Rv (.ref (w.K (10 + i))) h) := by
  refine Con.of (by decide +kernel) rfl rfl ?_
  show V w mX2_word cX2_word 1 0 0 _ 0 [some (.int (nI i))] [] _
  refine V_iload0 eX2_word_0 ?_
  refine V_tableswitch eX2_word_1 (fun k t ht hx => ?_) (fun hx => ?_)
  · have hk : k < 6 := (List.getElem?_eq_some_iff.mp ht).1
    rw [nI_toInt (by omega)] at hx
    have e : i = k := by omega
    subst e
    rcases (show i = 0 ∨ i = 1 ∨ i = 2 ∨ i = 3 ∨ i = 4 ∨ i = 5 by omega) with rfl | rfl | rfl | rfl | rfl | rfl
    all_goals cases ht
    · refine V_ldcS (i := 0) (by decide) rfl eX2_word_40 ?_
      exact V_areturn (r := some (w.K (10 + 0))) eX2_word_42 rfl (Or.inl ⟨_, rfl⟩) ⟨rfl, rfl⟩
    · refine V_ldcS (i := 1) (by decide) rfl eX2_word_43 ?_
      exact V_areturn (r := some (w.K (10 + 1))) eX2_word_45 rfl (Or.inl ⟨_, rfl⟩) ⟨rfl, rfl⟩
    · refine V_ldcS (i := 2) (by decide) rfl eX2_word_46 ?_
      exact V_areturn (r := some (w.K (10 + 2))) eX2_word_48 rfl (Or.inl ⟨_, rfl⟩) ⟨rfl, rfl⟩
    · refine V_ldcS (i := 3) (by decide) rfl eX2_word_49 ?_
      exact V_areturn (r := some (w.K (10 + 3))) eX2_word_51 rfl (Or.inl ⟨_, rfl⟩) ⟨rfl, rfl⟩
    · refine V_ldcS (i := 4) (by decide) rfl eX2_word_52 ?_
      exact V_areturn (r := some (w.K (10 + 4))) eX2_word_54 rfl (Or.inl ⟨_, rfl⟩) ⟨rfl, rfl⟩
    · refine V_ldcS (i := 5) (by decide) rfl eX2_word_55 ?_
      exact V_areturn (r := some (w.K (10 + 5))) eX2_word_57 rfl (Or.inl ⟨_, rfl⟩) ⟨rfl, rfl⟩
  · rw [nI_toInt (by omega)] at hx
    have e : i = 6 := by simp only [List.length_cons, List.length_nil] at hx; omega
    subst e
    refine V_ldcS (i := 6) (by decide) rfl eX2_word_58 ?_
    exact V_areturn (r := some (w.K (10 + 6))) eX2_word_60 rfl (Or.inl ⟨_, rfl⟩) ⟨rfl, rfl⟩
end TX
