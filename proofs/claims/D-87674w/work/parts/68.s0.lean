set_option maxRecDepth 100000
/-! ===== more for the runner: shifts, texts compared, copies ===== -/
theorem zi_0addE {y : Int32} {b : Nat} (h : y = Int32.ofNat b) : (0 : Int32) + y = Int32.ofNat b := by rw [Int32.zero_add, h]
theorem zi_shr0 {x : Int32} {a : Nat} (h : x = Int32.ofNat a) : (x >>> ((0 : Int32) &&& 31) : Int32) = Int32.ofNat a := by
  have : ((0 : Int32) &&& 31) = 0 := by decide
  rw [this, h]
  exact Int32.shiftRight_zero
theorem zi_shl0 {x : Int32} {a : Nat} (h : x = Int32.ofNat a) : (x <<< ((0 : Int32) &&& 31) : Int32) = Int32.ofNat a := by
  have : ((0 : Int32) &&& 31) = 0 := by decide
  rw [this, h]
  exact Int32.shiftLeft_zero
theorem zi_toInt {a : Nat} (h : a < 2147483648) : (Int32.ofNat a).toInt = (a : Int) := Int32.toInt_ofNat_of_lt h
theorem zi_subI {x y : Int32} {a b : Nat} (h1 : x = Int32.ofNat a) (h2 : y = Int32.ofNat b) (ha : a < 1073741824) (hb : b < 1073741824) : (x - y).toInt = (a : Int) - (b : Int) := by
  rw [Int32.toInt_sub, h1, h2, zi_toInt (by omega), zi_toInt (by omega)]
  apply Int.bmod_eq_of_le <;> omega
theorem zi_s0le {x y : Int32} {a b : Nat} (h1 : x = Int32.ofNat a) (h2 : y = Int32.ofNat b) (ha : a < 1073741824) (hb : b < 1073741824) : x - y ≤ 0 ↔ a ≤ b := by
  rw [Int32.le_iff_toInt_le, zi_subI h1 h2 ha hb]
  show _ ≤ (0 : Int) ↔ _
  omega
theorem zi_s0lt {x y : Int32} {a b : Nat} (h1 : x = Int32.ofNat a) (h2 : y = Int32.ofNat b) (ha : a < 1073741824) (hb : b < 1073741824) : x - y < 0 ↔ a < b := by
  rw [Int32.lt_iff_toInt_lt, zi_subI h1 h2 ha hb]
  show _ < (0 : Int) ↔ _
  omega
theorem zi_s0eq {x y : Int32} {a b : Nat} (h1 : x = Int32.ofNat a) (h2 : y = Int32.ofNat b) (ha : a < 1073741824) (hb : b < 1073741824) : x - y = 0 ↔ a = b := by
  rw [← Int32.toInt_inj, zi_subI h1 h2 ha hb]
  show _ = (0 : Int) ↔ _
  omega
theorem zi_0sle {x y : Int32} {a b : Nat} (h1 : x = Int32.ofNat a) (h2 : y = Int32.ofNat b) (ha : a < 1073741824) (hb : b < 1073741824) : 0 ≤ y - x ↔ a ≤ b := by
  rw [Int32.le_iff_toInt_le, zi_subI h2 h1 hb ha]
  show (0 : Int) ≤ _ ↔ _
  omega
theorem zi_0slt {x y : Int32} {a b : Nat} (h1 : x = Int32.ofNat a) (h2 : y = Int32.ofNat b) (ha : a < 1073741824) (hb : b < 1073741824) : 0 < y - x ↔ a < b := by
  rw [Int32.lt_iff_toInt_lt, zi_subI h2 h1 hb ha]
  show (0 : Int) < _ ↔ _
  omega
theorem zi_ngI {a : Nat} (h : a < 2147483648) : (-(Int32.ofNat a)).toInt = -(a : Int) := by
  rw [Int32.toInt_neg, zi_toInt h]
  apply Int.bmod_eq_of_le <;> omega
theorem zi_ngle {a b : Nat} (ha : a < 2147483648) (hb : b < 2147483648) : -(Int32.ofNat a) ≤ -(Int32.ofNat b) ↔ b ≤ a := by
  rw [Int32.le_iff_toInt_le, zi_ngI ha, zi_ngI hb]
  omega
theorem zi_nglt {a b : Nat} (ha : a < 2147483648) (hb : b < 2147483648) : -(Int32.ofNat a) < -(Int32.ofNat b) ↔ b < a := by
  rw [Int32.lt_iff_toInt_lt, zi_ngI ha, zi_ngI hb]
  omega
theorem zi_ngMul {a c : Nat} : -(Int32.ofNat a) * Int32.ofNat c = -(Int32.ofNat (a * c)) := by rw [Int32.neg_mul, ← Int32.ofNat_mul]
theorem zi_ngSub {a b : Nat} (h : a ≤ b) : -(Int32.ofNat a) - -(Int32.ofNat b) = Int32.ofNat (b - a) := by
  rw [Int32.sub_eq_add_neg, Int32.neg_neg, Int32.add_comm, ← Int32.sub_eq_add_neg]
  exact zi_subE rfl rfl h
theorem zi_ngDiv {a c : Nat} (ha : a < 2147483648) (hc : 0 < c ∧ c < 1000) : -(Int32.ofNat a) / Int32.ofNat c = -(Int32.ofNat (a / c)) := by
  have hle : a / c ≤ a := Nat.div_le_self a c
  rw [← Int32.toInt_inj, Int32.toInt_div, zi_ngI ha, zi_toInt (by omega), zi_ngI (by omega)]
  rw [Int.neg_tdiv, ← Int.ofNat_tdiv]
  have h0 : (0 : Int) ≤ (a : Int) / (c : Int) := Int.ediv_nonneg (Int.natCast_nonneg a) (Int.natCast_nonneg c)
  apply Int.bmod_eq_of_le <;> omega
theorem gA_zcopy_ne {S : zS} {s d sp dp n a j : Nat} (h : a ≠ d) : gA (zcopy S s d sp dp n) a j = gA S a j := if_neg h
theorem gA_zcopy_in {S : zS} {s d sp dp n j : Nat} (h : j < n) : gA (zcopy S s d sp dp n) d (dp + j) = gA S s (sp + j) := by
  show (if d = d then va_cpy (S.2.2.1 s) (S.2.2.1 d) sp dp n (dp + j) else _) = _
  rw [if_pos rfl]
  unfold va_cpy
  rw [if_pos ⟨by omega, by omega⟩]
  rw [show sp + (dp + j - dp) = sp + j from by omega]
  rfl
theorem gA_zcopy_out {S : zS} {s d sp dp n j : Nat} (h : j < dp ∨ dp + n ≤ j) : gA (zcopy S s d sp dp n) d j = gA S d j := by
  show (if d = d then va_cpy (S.2.2.1 s) (S.2.2.1 d) sp dp n j else _) = _
  rw [if_pos rfl]
  unfold va_cpy
  rw [if_neg (by omega)]
  rfl
theorem zKE_cp {N : Nat} {A Fs : List Nat} {S : zS} {s d sp dp n : Nat} (h : d ∈ A ∨ (N ≤ d ∧ d < zLB)) : zKE N A Fs S (zcopy S s d sp dp n) := by
  refine ⟨⟨Nat.le_refl _, Nat.le_refl _⟩, fun c hc => ⟨rfl, fun hA => ⟨fun g hg => ⟨rfl, rfl⟩, ?_, rfl, rfl⟩⟩⟩
  funext j
  refine gA_zcopy_ne ?_
  rintro rfl
  rcases h with h | h
  · exact hA h
  · omega
section S0
variable {T : Bool} {tb : List (Nat × List zE)} {me d : Nat} {post : Outcome × zS → Prop} {pc pc' : Nat} {L L' st st' r : List Value} {S S' : zS} {e : zE} {cc : Prop} {x y a b k s d' t9 : Nat} {sp dp n : Int32} {off : Int}
theorem zv_ac (ht : ztab me = tb) (hl : zlk tb pc = some e) (ho : e.2.1 = .if_acmp .ne off) (hp : e.1 + e.2.2.1 = pc') (hst : st = .ref y :: .ref x :: r) (h22 : ztyp S x = 22 ∧ ztyp S y = 22) (k1 : x = y → zEv d me pc' L r S post) (k2 : ¬ x = y → zEv d me e.2.2.2.2.1 L r S post) : zEv d me pc L st S post := by
  rw [← ht] at hl
  obtain ⟨p0, i0, n0, v0, a0, w0, t0⟩ := e
  simp only at ho hp k2
  subst ho
  subst hst
  subst hp
  have hc : zcop (p0, .if_acmp .ne off, n0, v0, a0, w0, t0) L (.ref y :: .ref x :: r) S = some (some (ztyp S x = 22 ∧ ztyp S y = 22), (if x = y then p0 + n0 else a0), L, r, S) := rfl
  refine zEv.stepC hl hc h22 ?_
  by_cases h : x = y
  · rw [if_pos h]; exact k1 h
  · rw [if_neg h]; exact k2 h
theorem zv_acE (ht : ztab me = tb) (hl : zlk tb pc = some e) (ho : e.2.1 = .if_acmp .ne off) (hp : e.1 + e.2.2.1 = pc') (hst : st = .ref x :: .ref x :: r) (h22 : ztyp S x = 22 ∧ ztyp S x = 22) (k1 : zEv d me pc' L r S post) : zEv d me pc L st S post :=
  zv_ac ht hl ho hp hst h22 (fun _ => k1) (fun h => absurd rfl h)
theorem zv_acN (ht : ztab me = tb) (hl : zlk tb pc = some e) (ho : e.2.1 = .if_acmp .ne off) (hp : e.1 + e.2.2.1 = pc') (hst : st = .ref y :: .ref x :: r) (h22 : ztyp S x = 22 ∧ ztyp S y = 22) (hne : x ≠ y) (k2 : zEv d me e.2.2.2.2.1 L r S post) : zEv d me pc L st S post :=
  zv_ac ht hl ho hp hst h22 (fun h => absurd h hne) (fun _ => k2)
theorem zv_cp (ht : ztab me = tb) (hl : zlk tb pc = some e) (hc : zcop e L st S = some (some (((ztyp S s = 101 ∨ ztyp S s = 121) ∧ ztyp S d' = 101 ∧ s ≠ d') ∧ zcopyOK S s d' sp dp n), pc', L, r, zcopy S s d' sp.toNatClampNeg dp.toNatClampNeg n.toNatClampNeg)) (hpc : e.1 + e.2.2.1 = pc')
    (h1 : sp = Int32.ofNat a) (h2 : dp = Int32.ofNat b) (h3 : n = Int32.ofNat k) (b1 : a < 2147483648) (b2 : b < 2147483648) (b3 : k < 2147483648) (hs : ztyp S s = 101 ∨ ztyp S s = 121) (hd : ztyp S d' = 101) (hne : s ≠ d') (l1 : a + k ≤ zlen S s) (l2 : b + k ≤ zlen S d') (h : zEv d me pc' L r (zcopy S s d' a b k) post) : zEv d me pc L st S post := by
  refine zv_ci ht hl hc ⟨⟨hs, hd, hne⟩, ?_⟩ ?_
  · subst h1
    subst h2
    subst h3
    exact ⟨zi_neg b3, zi_neg b1, zi_neg b2, by rw [zi_nat b1, zi_nat b3]; exact l1, by rw [zi_nat b2, zi_nat b3]; exact l2⟩
  · rw [h1, h2, h3, zi_nat b1, zi_nat b2, zi_nat b3]
    exact h
theorem zv_cln {q : Nat} (ht : ztab me = tb) (hl : zlk tb pc = some e) (hc : zcop e L st S = some (some (ztyp S q = 101 ∧ znew S 101 (zlen S q)), pc', L, .ref (gN S) :: r, zcopy (sNew S 101 (zlen S q) (zlen S q)) q (gN S) 0 0 (zlen S q))) (hpc : e.1 + e.2.2.1 = pc') (h1 : ztyp S q = 101 ∧ znew S 101 (zlen S q)) (hk : zlen S q = k) (h : zEv d me pc' L (.ref (gN S) :: r) (zcopy (sNew S 101 k k) q (gN S) 0 0 k) post) : zEv d me pc L st S post := by
  subst hk
  exact zv_ci ht hl hc h1 h
end S0

