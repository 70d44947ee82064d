/-! ===== numbers ===== -/
theorem zi_nat {k : Nat} (h : k < 2147483648) : (Int32.ofNat k).toNatClampNeg = k := Int32.toNatClampNeg_ofNat_of_lt h
theorem zi_neg {k : Nat} (h : k < 2147483648) : ¬ Int32.ofNat k < 0 := by
  intro hh
  have : Int32.ofNat k < Int32.ofNat 0 := hh
  rw [Int32.ofNat_lt_ofNat h (by decide)] at this
  omega
theorem zi_in {k n : Nat} (h : k < n) (hk : k < 2147483648) : vp_in (Int32.ofNat k) n := by
  intro hh
  rcases hh with hh | hh
  · exact zi_neg hk hh
  · rw [zi_nat hk] at hh; omega
theorem zi_lt {a b : Nat} (ha : a < 2147483648) (hb : b < 2147483648) : Int32.ofNat a < Int32.ofNat b ↔ a < b := Int32.ofNat_lt_ofNat ha hb
theorem zi_le {a b : Nat} (ha : a < 2147483648) (hb : b < 2147483648) : Int32.ofNat a ≤ Int32.ofNat b ↔ a ≤ b := Int32.ofNat_le_ofNat ha hb
theorem zi_add (a b : Nat) : Int32.ofNat a + Int32.ofNat b = Int32.ofNat (a + b) := (Int32.ofNat_add a b).symm
theorem zi_i2b (v : Int32) : v.toInt8.toInt32.toInt8.toInt32 = v.toInt8.toInt32 := by simp
theorem zi_addE {x y : Int32} {a b : Nat} (h1 : x = Int32.ofNat a) (h2 : y = Int32.ofNat b) : x + y = Int32.ofNat (a + b) := by rw [h1, h2]; exact (Int32.ofNat_add a b).symm
theorem zi_mulE {x y : Int32} {a b : Nat} (h1 : x = Int32.ofNat a) (h2 : y = Int32.ofNat b) : x * y = Int32.ofNat (a * b) := by rw [h1, h2]; exact (Int32.ofNat_mul a b).symm
theorem zi_subE {x y : Int32} {a b : Nat} (h1 : x = Int32.ofNat a) (h2 : y = Int32.ofNat b) (hl : b ≤ a) : x - y = Int32.ofNat (a - b) := by
  have e : x = Int32.ofNat (a - b) + y := by
    rw [h1, h2, zi_add]
    congr 1
    omega
  rw [e, Int32.add_sub_cancel]
theorem zi_natE {x : Int32} {a : Nat} (h1 : x = Int32.ofNat a) (ha : a < 2147483648) : x.toNatClampNeg = a := by rw [h1]; exact zi_nat ha
theorem zi_inE {x : Int32} {a n : Nat} (h1 : x = Int32.ofNat a) (ha : a < 2147483648) (h : a < n) : vp_in x n := by rw [h1]; exact zi_in h ha
theorem zi_ltE {x y : Int32} {a b : Nat} (h1 : x = Int32.ofNat a) (h2 : y = Int32.ofNat b) (ha : a < 2147483648) (hb : b < 2147483648) : x < y ↔ a < b := by rw [h1, h2]; exact zi_lt ha hb
theorem zi_leE {x y : Int32} {a b : Nat} (h1 : x = Int32.ofNat a) (h2 : y = Int32.ofNat b) (ha : a < 2147483648) (hb : b < 2147483648) : x ≤ y ↔ a ≤ b := by rw [h1, h2]; exact zi_le ha hb
theorem zi_eqE {x y : Int32} {a b : Nat} (h1 : x = Int32.ofNat a) (h2 : y = Int32.ofNat b) (ha : a < 2147483648) (hb : b < 2147483648) : x = y ↔ a = b := by
  rw [h1, h2]
  refine ⟨fun h => ?_, fun h => by rw [h]⟩
  have h3 := congrArg Int32.toNatClampNeg h
  rw [zi_nat ha, zi_nat hb] at h3
  exact h3
theorem zi_neE {x y : Int32} {a b : Nat} (h1 : x = Int32.ofNat a) (h2 : y = Int32.ofNat b) (ha : a < 2147483648) (hb : b < 2147483648) : ¬ x = y ↔ ¬ a = b := not_congr (zi_eqE h1 h2 ha hb)
/-! rows of an array at once -/
def sAf (S : zS) (a : Nat) (f : Nat → Int32) : zS := (S.1, S.2.1, (fun c => if c = a then f else S.2.2.1 c), S.2.2.2)
theorem sAf_self (S : zS) (a : Nat) : sAf S a (gA S a) = S := by
  have e : (fun c => if c = a then gA S a else S.2.2.1 c) = S.2.2.1 := by
    funext c
    by_cases h : c = a
    · rw [if_pos h, h]; rfl
    · rw [if_neg h]
  unfold sAf
  rw [e]
theorem sA_sAf (S : zS) (a : Nat) (f : Nat → Int32) (j : Nat) (v : Int32) : sA (sAf S a f) a j v = sAf S a (fun i => if i = j then v else f i) := by
  have e : zu (sAf S a f).2.2.1 a j v = fun c => if c = a then (fun i => if i = j then v else f i) else S.2.2.1 c := by
    funext c i
    unfold zu sAf
    by_cases h : c = a
    · simp [h]
    · simp [h]
  show (S.1, S.2.1, zu (sAf S a f).2.2.1 a j v, S.2.2.2) = _
  rw [e]
  rfl
theorem sAf_sAf (S : zS) (a : Nat) (f g : Nat → Int32) : sAf (sAf S a f) a g = sAf S a g := by
  have e : (fun c => if c = a then g else (sAf S a f).2.2.1 c) = fun c => if c = a then g else S.2.2.1 c := by
    funext c
    unfold sAf
    by_cases h : c = a
    · simp [h]
    · simp [h]
  show (S.1, S.2.1, (fun c => if c = a then g else (sAf S a f).2.2.1 c), S.2.2.2) = _
  rw [e]
  rfl
theorem zi_255 {c : Nat} (h : c < 256) : Int32.ofNat c &&& 255 = Int32.ofNat c := by
  have h2 : ∀ c, c < 256 → Int32.ofNat c &&& 255 = Int32.ofNat c := by decide +kernel
  exact h2 c h
theorem zi_i2c {c : Nat} (h : c < 65536) : ((Int32.ofNat c).toUInt32 % 65536).toInt32 = Int32.ofNat c := by
  apply Int32.toBitVec_inj.mp
  apply BitVec.eq_of_toNat_eq
  have e : ((Int32.ofNat c).toUInt32 % 65536).toInt32.toBitVec.toNat = ((Int32.ofNat c).toUInt32 % 65536).toNat := rfl
  rw [e, UInt32.toNat_mod]
  show c % 4294967296 % 65536 = c % 4294967296
  omega
theorem zi_i2b7 {c : Nat} (h : c < 128) : (Int32.ofNat c).toInt8.toInt32 = Int32.ofNat c := by
  have h2 : ∀ c, c < 128 → (Int32.ofNat c).toInt8.toInt32 = Int32.ofNat c := by decide +kernel
  exact h2 c h
theorem zi_nz {x : Int32} {a : Nat} (h : x = Int32.ofNat a) (ha : a < 2147483648) (h0 : 0 < a) : ¬ x = 0 := by
  intro hh
  have := (zi_eqE (y := 0) (b := 0) h rfl ha (by omega)).mp hh
  omega
theorem zi_divE {x y : Int32} {a b : Nat} (h1 : x = Int32.ofNat a) (h2 : y = Int32.ofNat b) (ha : a < 2147483648) (hb : b < 2147483648) : x / y = Int32.ofNat (a / b) := by
  rw [h1, h2]
  exact (Int32.ofNat_div ha hb).symm
theorem zi_remE {x y : Int32} {a b : Nat} (h1 : x = Int32.ofNat a) (h2 : y = Int32.ofNat b) (ha : a < 2147483648) (hb : b < 2147483648) : x - x / y * y = Int32.ofNat (a % b) := by
  have h3 := zi_divE h1 h2 ha hb
  rw [zi_subE h1 (zi_mulE h3 h2) (Nat.div_mul_le_self a b)]
  congr 1
  rw [Nat.mod_def, Nat.mul_comm]
