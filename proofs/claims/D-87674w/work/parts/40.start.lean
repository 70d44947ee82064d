/-! ===== the start ===== -/
set_option maxRecDepth 100000
def ztx : List (List Int32) := [[], [48, 49, 50, 51, 52, 53, 54, 55, 56, 57, 97, 98, 99, 100, 101, 102, 55, 52, 100, 49, 97, 54, 102, 51, 99, 48, 57, 53, 50, 101, 98, 56, 51, 97, 101, 52, 57, 102, 56, 49, 50, 55, 48, 54, 100, 98, 53, 99, 49, 57, 98, 97, 48, 56, 99, 52, 100, 51, 55, 102, 101, 53, 54, 50, 52, 48, 53, 57, 55, 99, 50, 97, 101, 49, 51, 56, 98, 54, 102, 100], [53, 101, 55, 48, 57, 50, 98, 52, 100, 54, 102, 56, 49, 97, 51, 99, 54, 98, 51, 55, 48, 100, 53, 97, 101, 102, 56, 99, 52, 57, 49, 50, 102, 53, 49, 51, 55, 101, 54, 57, 98, 56, 99, 50, 97, 48, 52, 100, 56, 54, 52, 49, 51, 98, 102, 48, 53, 99, 50, 100, 57, 55, 97, 101, 99, 102, 97, 52, 49, 53, 56, 55, 54, 50, 100, 101, 48, 51, 57, 98], [98, 101, 102, 99, 53, 56, 55, 57, 98, 100, 101, 102, 54, 55, 57, 56, 55, 54, 56, 100, 98, 57, 55, 102, 55, 99, 102, 57, 98, 55, 100, 99, 98, 100, 54, 55, 101, 57, 100, 102, 101, 56, 100, 54, 53, 99, 55, 53, 98, 99, 101, 102, 101, 102, 57, 56, 57, 101, 53, 54, 56, 54, 53, 99, 57, 102, 53, 98, 54, 56, 100, 99, 53, 99, 100, 101, 98, 56, 53, 54], [56, 57, 57, 98, 100, 102, 102, 53, 55, 55, 56, 98, 101, 101, 99, 54, 57, 100, 102, 55, 99, 56, 57, 98, 55, 55, 99, 55, 54, 102, 100, 98, 57, 55, 102, 98, 56, 54, 54, 101, 99, 100, 53, 101, 100, 100, 55, 53, 102, 53, 56, 98, 101, 101, 54, 101, 54, 57, 99, 57, 99, 53, 102, 56, 56, 53, 99, 57, 99, 53, 101, 54, 56, 100, 54, 53, 102, 100, 98, 98], [112, 107], [111, 108, 100, 101, 114], [97, 102, 116, 101, 114], [97, 110, 100], [111, 114], [116, 104, 114, 101, 115, 104], [115, 104, 97, 50, 53, 54], [104, 97, 115, 104, 50, 53, 54], [114, 105, 112, 101, 109, 100, 49, 54, 48], [104, 97, 115, 104, 49, 54, 48], [48], [49], [112, 107, 104], [112, 107, 95, 107], [112, 107, 95, 104], [109, 117, 108, 116, 105], [97, 110, 100, 111, 114], [97, 110, 100, 95, 110], [97, 110, 100, 95, 118], [97, 110, 100, 95, 98], [111, 114, 95, 98], [111, 114, 95, 99], [111, 114, 95, 100], [111, 114, 95, 105], [97, 115, 99, 100, 118, 106, 110, 116, 108, 117], [97, 110, 100, 111, 114, 40], [112, 107, 95, 104, 40], [112, 107, 95, 107, 40], [111, 108, 100, 101, 114, 40], [97, 102, 116, 101, 114, 40], [109, 117, 108, 116, 105, 40], [116, 104, 114, 101, 115, 104, 40], [97, 115, 99, 100, 118, 106, 110]]
def ztm (k : Nat) : Term := if k < 19 then (if k < 9 then (if k < 4 then (if k < 2 then (if k < 1 then (.string "SpendHouse" 46) else (.string "SpendHouse$Hashes" 84)) else (if k < 3 then (.string "SpendHouse$Hashes" 86) else (.string "SpendHouse$Hashes" 100))) else (if k < 6 then (if k < 5 then (.string "SpendHouse$Hashes" 102) else (.string "SpendHouse$Reader" 99)) else (if k < 7 then (.string "SpendHouse$Reader" 107) else (if k < 8 then (.string "SpendHouse$Reader" 109) else (.string "SpendHouse$Reader" 231))))) else (if k < 14 then (if k < 11 then (if k < 10 then (.string "SpendHouse$Reader" 233) else (.string "SpendHouse$Reader" 113)) else (if k < 12 then (.string "SpendHouse" 108) else (if k < 13 then (.string "SpendHouse" 110) else (.string "SpendHouse" 112)))) else (if k < 16 then (if k < 15 then (.string "SpendHouse" 114) else (.string "SpendHouse$Reader" 91)) else (if k < 17 then (.string "SpendHouse$Reader" 97) else (if k < 18 then (.string "SpendHouse$Reader" 101) else (.string "SpendHouse$Reader" 103)))))) else (if k < 28 then (if k < 23 then (if k < 21 then (if k < 20 then (.string "SpendHouse$Reader" 105) else (.string "SpendHouse$Reader" 111)) else (if k < 22 then (.string "SpendHouse$Reader" 115) else (.string "SpendHouse$Reader" 117))) else (if k < 25 then (if k < 24 then (.string "SpendHouse" 116) else (.string "SpendHouse" 118)) else (if k < 26 then (.string "SpendHouse" 120) else (if k < 27 then (.string "SpendHouse" 122) else (.string "SpendHouse" 124))))) else (if k < 33 then (if k < 30 then (if k < 29 then (.string "SpendHouse" 126) else (.string "SpendHouse$Reader" 189)) else (if k < 31 then (.string "SpendHouse$AndOr" 88) else (if k < 32 then (.string "SpendHouse$Key" 55) else (.string "SpendHouse$Key" 57)))) else (if k < 35 then (if k < 34 then (.string "SpendHouse$Lock" 47) else (.string "SpendHouse$Lock" 49)) else (if k < 36 then (.string "SpendHouse$Multi" 54) else (if k < 37 then (.string "SpendHouse$Thresh" 78) else (.string "SpendHouseModel" 626))))))
def zpos (k : Nat) : Nat := if k < 19 then (if k < 9 then (if k < 4 then (if k < 2 then (if k < 1 then (430) else (436)) else (if k < 3 then (522) else (608))) else (if k < 6 then (if k < 5 then (694) else (780)) else (if k < 7 then (788) else (if k < 8 then (799) else (810))))) else (if k < 14 then (if k < 11 then (if k < 10 then (819) else (827)) else (if k < 12 then (839) else (if k < 13 then (851) else (864)))) else (if k < 16 then (if k < 15 then (879) else (892)) else (if k < 17 then (899) else (if k < 18 then (906) else (915)))))) else (if k < 28 then (if k < 23 then (if k < 21 then (if k < 20 then (925) else (935)) else (if k < 22 then (946) else (957))) else (if k < 25 then (if k < 24 then (968) else (979)) else (if k < 26 then (990) else (if k < 27 then (1000) else (1010))))) else (if k < 33 then (if k < 30 then (if k < 29 then (1020) else (1030)) else (if k < 31 then (1046) else (if k < 32 then (1058) else (1069)))) else (if k < 35 then (if k < 34 then (1080) else (1092)) else (if k < 36 then (1104) else (if k < 37 then (1116) else (1384))))))
def zFl : List Cond := flatC (Cond.and given_1 narrow_1)
def zvl (k : Nat) : Term := .field (ztm k) "java/lang/String" "value" "[B"
def znw (k : Nat) : List Cond := [.exactly (ztm k) "java/lang/String", .eq (.field (ztm k) "java/lang/String" "coder" "B") (.int 0), .arrayOf (zvl k) .byte, .eq (.length (zvl k)) (.int (Int32.ofNat (ztx.getD k []).length))] ++ (List.range (ztx.getD k []).length).map (fun j => .eq (.elem (zvl k) (.int (Int32.ofNat j))) (.int ((ztx.getD k []).getD j 0)))
theorem znw_ok : ∀ k, k < 38 → (zFl.drop (zpos k)).take (znw k).length = znw k := by decide +kernel
def zten (j : Nat) : Int32 := Int32.ofNat (48 + j / 10 % 10)
def zone9 (j : Nat) : Int32 := Int32.ofNat (48 + j % 10)
def zdT : Term := .static "java/lang/Integer" "DigitTens" "[B"
def zdO : Term := .static "java/lang/Integer" "DigitOnes" "[B"
def zdw (t : Term) (f : Nat → Int32) : List Cond := [.arrayOf t .byte, .eq (.length t) (.int (Int32.ofNat 100))] ++ (List.range 100).map (fun j => .eq (.elem t (.int (Int32.ofNat j))) (.int (f j)))
theorem zdT_ok : (zFl.drop 116).take (zdw zdT zten).length = zdw zdT zten := by decide +kernel
theorem zdO_ok : (zFl.drop 13).take (zdw zdO zone9).length = zdw zdO zone9 := by decide +kernel
theorem zseg {args : Array Value} {s : State} (h : (Cond.and given_1 narrow_1).before args s = true) {W : List Cond} {p : Nat} (hW : (zFl.drop p).take W.length = W) : ∀ w ∈ W, w.before args s = true := fun w hw => flat_of_before _ h w (List.mem_of_mem_drop (List.mem_of_mem_take (hW.symm ▸ hw)))
theorem zat1 {args : Array Value} {s : State} (h : (Cond.and given_1 narrow_1).before args s = true) {w : Cond} (p : Nat) (hW : zFl[p]? = some w) : w.before args s = true := flat_of_before _ h w (List.mem_of_getElem? hW)
theorem zeqv {args : Array Value} {s : State} {t u : Term} {a : Nat} (h : (Cond.eq t u).before args s = true) (ht : t.eval args s none [] s = some (.ref a)) : u.eval args s none [] s = some (.ref a) := by
  cases hv : u.eval args s none [] s with
  | none => simp [Cond.before, Cond.holds, Cond.value, hv] at h
  | some w =>
    simp only [Cond.before, Cond.holds, Cond.value, hv, ht] at h
    cases w <;> simp_all
/-- a text's cells -/
def zTxt (args : Array Value) (s : State) (k : Nat) (q : Nat × Nat) : Prop := (ztm k).eval args s none [] s = some (.ref q.1) ∧ va_O "java/lang/String" q.1 (fun a => s.heap.size ≤ a) s s.heap ∧ va_OF "java/lang/String" "coder" "B" (.int 0) q.1 (fun a => s.heap.size ≤ a) s s.heap ∧ va_OF "java/lang/String" "value" "[B" (.ref q.2) q.1 (fun a => s.heap.size ≤ a) s s.heap ∧ va_T .byte q.2 (ztx.getD k []).length (fun j => .int ((ztx.getD k []).getD j 0)) (fun a => s.heap.size ≤ a) s s.heap
theorem ztx_len : ∀ k, k < 38 → (ztx.getD k []).length < 100 := by decide +kernel
theorem zTxt_of {args : Array Value} {s : State} (h : (Cond.and given_1 narrow_1).before args s = true) (k : Nat) (hk : k < 38) : ∃ q, zTxt args s k q := by
  have hw := zseg h (znw_ok k hk)
  have hA : ∀ a : Nat, a < s.heap.size → ¬ (fun a => s.heap.size ≤ a) a := fun a h => Nat.not_le.mpr h
  have hl := ztx_len k hk
  have m1 : Cond.exactly (ztm k) "java/lang/String" ∈ znw k := List.mem_append_left _ List.mem_cons_self
  have m2 : Cond.eq (.field (ztm k) "java/lang/String" "coder" "B") (.int 0) ∈ znw k := List.mem_append_left _ (List.mem_cons_of_mem _ List.mem_cons_self)
  have m3 : Cond.arrayOf (zvl k) .byte ∈ znw k := List.mem_append_left _ (List.mem_cons_of_mem _ (List.mem_cons_of_mem _ List.mem_cons_self))
  have m4 : Cond.eq (.length (zvl k)) (.int (Int32.ofNat (ztx.getD k []).length)) ∈ znw k := List.mem_append_left _ (List.mem_cons_of_mem _ (List.mem_cons_of_mem _ (List.mem_cons_of_mem _ List.mem_cons_self)))
  obtain ⟨a, c, cA, kA, q1, q2, q3, q4, q5, q6, -⟩ := Cond.exactly_spec (args := args) (first := s) (o := none) (s := s) (idx := []) (t := ztm k) (cls := "java/lang/String") (hw _ m1)
  obtain ⟨t, ht, hT⟩ := va_Tof (tm := zvl k) (N := (ztx.getD k []).length) (f := fun j => .int ((ztx.getD k []).getD j 0)) (A := fun a => s.heap.size ≤ a) (by omega) (hw _ m3) (va_eqt (hw _ m4)) (fun j hj => va_eqt (hw _ (List.mem_append_right _ (List.mem_map.mpr ⟨j, List.mem_range.mpr hj, rfl⟩)))) hA
  exact ⟨(a, t), q1, ⟨cA, q3, q5, by rw [q6]; exact q2, hA a (Array.getElem?_eq_some_iff.mp q3).1⟩, vk_OFof q1 (va_eqt (hw _ m2)) hA, vk_OFof q1 ht hA, hT⟩
/-- the start of the abstract machine: nothing is made yet; texts, tables, the script -/
def zlt (L i : Nat) : Nat × Nat := if i < zLB then (0, 0) else if i = zLB + 1003 then (120, L) else if i = zLB + 1000 then (121, 100) else if i = zLB + 1001 then (121, 100) else if i < zLB + 76 then (if i % 2 = 0 then (22, 0) else (121, (ztx.getD ((i - zLB) / 2) []).length)) else (99, 0)
def zla (xs : Nat → Int32) (i j : Nat) : Int32 := if i < zLB then 0 else if i = zLB + 1003 then xs j else if i = zLB + 1000 then zten j else if i = zLB + 1001 then zone9 j else if i < zLB + 76 then (ztx.getD ((i - zLB) / 2) []).getD j 0 else 0
def zS0 (L : Nat) (xs : Nat → Int32) : zS := (fun _ _ => 0, fun f a => if f = 199 ∧ zLB ≤ a ∧ a < zLB + 76 then some (a + 1) else none, zla xs, fun _ _ => 0, fun _ _ => none, zlt L, 0, 0)
theorem ztx_by : ∀ k, k < 38 → ∀ v ∈ ztx.getD k [], v.toInt8.toInt32 = v := by decide +kernel
theorem zdig_by : ∀ r, r < 10 → (Int32.ofNat (48 + r)).toInt8.toInt32 = Int32.ofNat (48 + r) := by decide +kernel
theorem zS0_typ {L : Nat} {xs : Nat → Int32} {i : Nat} (h : zLB ≤ i) : ztyp (zS0 L xs) i = (zlt L i).1 ∧ zlen (zS0 L xs) i = (zlt L i).2 := by
  have h0 : ¬ i < zD0 := by have := zD0_LB; omega
  unfold ztyp zlen
  rw [if_neg h0, if_neg h0]
  exact ⟨rfl, rfl⟩
theorem zlt_cases (L : Nat) {i : Nat} (h : zLB ≤ i) : (i = zLB + 1003 ∧ zlt L i = (120, L)) ∨ (i = zLB + 1000 ∧ zlt L i = (121, 100)) ∨ (i = zLB + 1001 ∧ zlt L i = (121, 100)) ∨ (∃ k, k < 38 ∧ i = zLB + 2 * k ∧ zlt L i = (22, 0)) ∨ (∃ k, k < 38 ∧ i = zLB + 2 * k + 1 ∧ zlt L i = (121, (ztx.getD k []).length)) ∨ zlt L i = (99, 0) := by
  have hLB : zLB % 2 = 0 := by decide
  unfold zlt
  rw [if_neg (by omega)]
  by_cases h1 : i = zLB + 1003
  · rw [if_pos h1]; exact Or.inl ⟨h1, rfl⟩
  · rw [if_neg h1]
    by_cases h2 : i = zLB + 1000
    · rw [if_pos h2]; exact Or.inr (Or.inl ⟨h2, rfl⟩)
    · rw [if_neg h2]
      by_cases h3 : i = zLB + 1001
      · rw [if_pos h3]; exact Or.inr (Or.inr (Or.inl ⟨h3, rfl⟩))
      · rw [if_neg h3]
        by_cases h4 : i < zLB + 76
        · rw [if_pos h4]
          by_cases h5 : i % 2 = 0
          · rw [if_pos h5]; exact Or.inr (Or.inr (Or.inr (Or.inl ⟨(i - zLB) / 2, by omega, by omega, rfl⟩)))
          · rw [if_neg h5]; exact Or.inr (Or.inr (Or.inr (Or.inr (Or.inl ⟨(i - zLB) / 2, by omega, by omega, rfl⟩))))
        · rw [if_neg h4]; exact Or.inr (Or.inr (Or.inr (Or.inr (Or.inr rfl))))
theorem zS0_inv (L : Nat) (xs : Nat → Int32) : zInv (zS0 L xs) := by
  refine ⟨⟨fun f a i hi => ?_, fun a j i hi => ?_⟩, fun a ha => absurd ha (Nat.not_lt_zero a), fun a j ht => ?_, fun i hi => ?_, by show 0 < zLB; decide⟩
  · have hi : (if f = 199 ∧ zLB ≤ a ∧ a < zLB + 76 then some (a + 1) else none) = some i := hi
    by_cases h : f = 199 ∧ zLB ≤ a ∧ a < zLB + 76
    · rw [if_pos h] at hi; cases hi; exact Or.inr (by omega)
    · rw [if_neg h] at hi; cases hi
  · cases hi
  · show (zla xs a j).toInt8.toInt32 = zla xs a j
    by_cases h : a < zLB
    · unfold zla; rw [if_pos h]; decide
    · have h' : zLB ≤ a := by omega
      rw [(zS0_typ h').1] at ht
      have dg : ∀ r, r < 10 → _ := zdig_by
      unfold zla
      rw [if_neg h]
      rcases zlt_cases L h' with ⟨h1, h2⟩ | ⟨h1, h2⟩ | ⟨h1, h2⟩ | ⟨k, hk, h1, h2⟩ | ⟨k, hk, h1, h2⟩ | h2
      · rw [h2] at ht; simp at ht
      · rw [if_neg (by omega), if_pos h1]; exact dg _ (Nat.mod_lt _ (by decide))
      · rw [if_neg (by omega), if_neg (by omega), if_pos h1]; exact dg _ (Nat.mod_lt _ (by decide))
      · rw [h2] at ht; simp at ht
      · rw [if_neg (by omega), if_neg (by omega), if_neg (by omega), if_pos (by omega), show (a - zLB) / 2 = k by omega]
        rw [List.getD_eq_getElem?_getD]
        cases he : (ztx.getD k [])[j]? with
        | none => decide
        | some v => exact ztx_by k hk v (List.mem_of_getElem? he)
      · rw [h2] at ht; simp at ht
  · rw [(zS0_typ hi).1]
    rcases zlt_cases L hi with ⟨h1, h2⟩ | ⟨h1, h2⟩ | ⟨h1, h2⟩ | ⟨k, hk, h1, h2⟩ | ⟨k, hk, h1, h2⟩ | h2 <;> rw [h2]
    · exact Or.inl rfl
    · exact Or.inr (Or.inl rfl)
    · exact Or.inr (Or.inl rfl)
    · exact Or.inr (Or.inr (Or.inl rfl))
    · exact Or.inr (Or.inl rfl)
    · exact Or.inr (Or.inr (Or.inr rfl))
theorem ztx_inj : ∀ i, i < 38 → ∀ j, j < 38 → ztx.getD i [] = ztx.getD j [] → i = j := by decide +kernel
theorem zext (A B : List Int32) (hl : A.length = B.length) (h : ∀ n, n < A.length → A.getD n 0 = B.getD n 0) : A = B := by
  refine List.ext_getElem hl fun n h1 h2 => ?_
  have h3 := h n h1
  rw [List.getD_eq_getElem?_getD, List.getD_eq_getElem?_getD, List.getElem?_eq_getElem h1, List.getElem?_eq_getElem h2] at h3
  exact h3
/-- different texts lie at different places -/
theorem zTxt_inj {args : Array Value} {s : State} {i j : Nat} {q r : Nat × Nat} (hi : i < 38) (hj : j < 38) (h1 : zTxt args s i q) (h2 : zTxt args s j r) (he : q.1 = r.1) : i = j := by
  obtain ⟨-, -, -, ⟨cf, k, fi, f, cell, a1, -, a3, -, a5, -⟩, cv, b1, -, -, b4, b5, b6, -⟩ := h1
  obtain ⟨-, -, -, ⟨cf', k', fi', f', cell', a1', -, a3', -, a5', -⟩, cv', b1', -, -, b4', b5', b6', -⟩ := h2
  cases a1.symm.trans a1'
  rw [he] at a3
  cases a3.symm.trans a3'
  have e2 : q.2 = r.2 := by have := a5.symm.trans a5'; simpa using this
  rw [e2] at b1
  cases b1.symm.trans b1'
  have l1 := ztx_len i hi
  have l2 := ztx_len j hj
  have hl : (ztx.getD i []).length = (ztx.getD j []).length := by
    have h3 : Int32.ofNat (ztx.getD i []).length = Int32.ofNat (ztx.getD j []).length := b5.symm.trans b5'
    have h4 := congrArg Int32.toNatClampNeg h3
    rw [Int32.toNatClampNeg_ofNat_of_lt (by omega), Int32.toNatClampNeg_ofNat_of_lt (by omega)] at h4
    exact h4
  refine ztx_inj i hi j hj (zext _ _ hl fun n hn => ?_)
  have h5 := (b6 n hn).symm.trans (b6' n (by omega))
  exact Value.int.inj (Option.some.inj h5)
