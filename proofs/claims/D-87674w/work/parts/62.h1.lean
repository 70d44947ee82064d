set_option maxRecDepth 100000
/-! ===== hashes, plainly ===== -/
theorem itW_out (f : (Nat → Int32) → Nat → Int32) : ∀ (m k : Nat) (w : Nat → Int32) (j : Nat), j < k ∨ k + m ≤ j → itW f m k w j = w j := by
  intro m
  induction m with
  | zero => intro k w j _; rfl
  | succ m ih =>
    intro k w j h
    show itW f m (k + 1) (fun j => if j = k then f w k else w j) j = w j
    rw [ih (k + 1) _ j (by omega), if_neg (by omega)]
theorem itW_cst (g : Nat → Int32) : ∀ (m k : Nat) (w : Nat → Int32) (j : Nat), k ≤ j → j < k + m → itW (fun _ => g) m k w j = g j := by
  intro m
  induction m with
  | zero => intro k w j h1 h2; omega
  | succ m ih =>
    intro k w j h1 h2
    show itW (fun _ => g) m (k + 1) (fun j => if j = k then g k else w j) j = g j
    by_cases e : j = k
    · subst e
      rw [itW_out _ _ _ _ _ (by omega), if_pos rfl]
    · exact ih (k + 1) _ j (by omega) (by omega)
theorem itW_sch : ∀ (m k : Nat) (w w' : Nat → Int32), 16 ≤ k → (∀ j, j < k → w j = w' j) → ∀ j, j < k + m → itW hSch m k w j = itW hSch m k w' j := by
  intro m
  induction m with
  | zero => intro k w w' _ h j hj; exact h j hj
  | succ m ih =>
    intro k w w' hk h j hj
    refine ih (k + 1) _ _ (by omega) ?_ j (by omega)
    intro i hi
    by_cases e : i = k
    · subst e
      show (if i = i then hSch w i else w i) = (if i = i then hSch w' i else w' i)
      rw [if_pos rfl, if_pos rfl]
      unfold hSch
      rw [h (i - 16) (by omega), h (i - 15) (by omega), h (i - 7) (by omega), h (i - 2) (by omega)]
    · show (if i = k then hSch w k else w i) = (if i = k then hSch w' k else w' i)
      rw [if_neg e, if_neg e]
      exact h i (by omega)
theorem hWds_congr {B B' w w' : Nat → Int32} (h : ∀ j, j < 64 → B j = B' j) : ∀ j, j < 64 → hWds B w j = hWds B' w' j := by
  intro j hj
  refine itW_sch 48 16 _ _ (by omega) ?_ j (by omega)
  intro i hi
  rw [itW_cst _ _ _ _ _ (by omega) (by omega), itW_cst _ _ _ _ _ (by omega) (by omega)]
  unfold hW0
  rw [h _ (by omega), h _ (by omega), h _ (by omega), h _ (by omega)]
theorem hRnds_congr {cs cs' w w' : Nat → Int32} : ∀ (m k : Nat) (x : h8), (∀ j, j < k + m → cs j = cs' j) → (∀ j, j < k + m → w j = w' j) → hRnds cs w m k x = hRnds cs' w' m k x := by
  intro m
  induction m with
  | zero => intro k x _ _; rfl
  | succ m ih =>
    intro k x h1 h2
    show hRnds cs w m (k + 1) (hRnd cs w k x) = hRnds cs' w' m (k + 1) (hRnd cs' w' k x)
    have e : hRnd cs w k x = hRnd cs' w' k x := by unfold hRnd; rw [h1 k (by omega), h2 k (by omega)]
    rw [e]
    exact ih (k + 1) _ (fun j hj => h1 j (by omega)) (fun j hj => h2 j (by omega))
theorem hBlk_congr {cs cs' B B' w w' s s' : Nat → Int32} (h1 : ∀ j, j < 64 → cs j = cs' j) (h2 : ∀ j, j < 64 → B j = B' j) (h3 : ∀ j, j < 8 → s j = s' j) : ∀ j, j < 8 → hBlk cs B w s j = hBlk cs' B' w' s' j := by
  intro j hj
  have e8 : h8of s = h8of s' := by
    unfold h8of
    rw [h3 0 (by omega), h3 1 (by omega), h3 2 (by omega), h3 3 (by omega), h3 4 (by omega), h3 5 (by omega), h3 6 (by omega), h3 7 (by omega)]
  have e : hRnds cs (hWds B w) 64 0 (h8of s) = hRnds cs' (hWds B' w') 64 0 (h8of s') := by
    rw [e8]
    exact hRnds_congr 64 0 _ (fun j hj => h1 j (by omega)) (fun j hj => hWds_congr h2 j (by omega))
  unfold hBlk
  rw [e]
  have : j = 0 ∨ j = 1 ∨ j = 2 ∨ j = 3 ∨ j = 4 ∨ j = 5 ∨ j = 6 ∨ j = 7 := by omega
  rcases this with rfl | rfl | rfl | rfl | rfl | rfl | rfl | rfl
  · show s 0 + _ = s' 0 + _; rw [h3 0 (by omega)]
  · show s 1 + _ = s' 1 + _; rw [h3 1 (by omega)]
  · show s 2 + _ = s' 2 + _; rw [h3 2 (by omega)]
  · show s 3 + _ = s' 3 + _; rw [h3 3 (by omega)]
  · show s 4 + _ = s' 4 + _; rw [h3 4 (by omega)]
  · show s 5 + _ = s' 5 + _; rw [h3 5 (by omega)]
  · show s 6 + _ = s' 6 + _; rw [h3 6 (by omega)]
  · show s 7 + _ = s' 7 + _; rw [h3 7 (by omega)]
/-- the constants -/
def hKL : List Int32 := [0x428a2f98, 0x71374491, 0xb5c0fbcf, 0xe9b5dba5, 0x3956c25b, 0x59f111f1, 0x923f82a4, 0xab1c5ed5,
  0xd807aa98, 0x12835b01, 0x243185be, 0x550c7dc3, 0x72be5d74, 0x80deb1fe, 0x9bdc06a7, 0xc19bf174,
  0xe49b69c1, 0xefbe4786, 0x0fc19dc6, 0x240ca1cc, 0x2de92c6f, 0x4a7484aa, 0x5cb0a9dc, 0x76f988da,
  0x983e5152, 0xa831c66d, 0xb00327c8, 0xbf597fc7, 0xc6e00bf3, 0xd5a79147, 0x06ca6351, 0x14292967,
  0x27b70a85, 0x2e1b2138, 0x4d2c6dfc, 0x53380d13, 0x650a7354, 0x766a0abb, 0x81c2c92e, 0x92722c85,
  0xa2bfe8a1, 0xa81a664b, 0xc24b8b70, 0xc76c51a3, 0xd192e819, 0xd6990624, 0xf40e3585, 0x106aa070,
  0x19a4c116, 0x1e376c08, 0x2748774c, 0x34b0bcb5, 0x391c0cb3, 0x4ed8aa4a, 0x5b9cca4f, 0x682e6ff3,
  0x748f82ee, 0x78a5636f, 0x84c87814, 0x8cc70208, 0x90befffa, 0xa4506ceb, 0xbef9a3f7, 0xc67178f2]
def hBL : List Int32 := [0x6a09e667, 0xbb67ae85, 0x3c6ef372, 0xa54ff53a, 0x510e527f, 0x9b05688c, 0x1f83d9ab, 0x5be0cd19]
def hRL : List Int32 := [0x67452301, 0xefcdab89, 0x98badcfe, 0x10325476, 0xc3d2e1f0]
def hK (k : Nat) : Int32 := hKL.getD k 0
def hB0 (k : Nat) : Int32 := hBL.getD k 0
def hR0 (k : Nat) : Int32 := hRL.getD k 0
def hAll (n : Nat) : Nat := (n + 72) / 64 * 64
def hLb (n i : Nat) : Int32 := Int32.ofNat (8 * n / 256 ^ i % 256)
/-- what is put behind n bytes -/
def hPd (hi : Bool) (n k : Nat) : Int32 := if k = n then 128 else if hAll n ≤ k + 8 then hLb n (bif hi then hAll n - 1 - k else k + 8 - hAll n) else 0
def hPad (hi : Bool) (n : Nat) (f : Nat → Int32) (k : Nat) : Int32 := if k < n then f k else hPd hi n k
/-- block by block -/
def hIt (blk : (Nat → Int32) → (Nat → Int32) → Nat → Int32) (m : Nat → Int32) (s : Nat → Int32) : Nat → Nat → Int32
  | 0 => s
  | i + 1 => blk (fun j => m (64 * i + j)) (hIt blk m s i)
theorem hIt_congr {blk : (Nat → Int32) → (Nat → Int32) → Nat → Int32} {c : Nat} (hb : ∀ B B' s s', (∀ j, j < 64 → B j = B' j) → (∀ j, j < c → s j = s' j) → ∀ j, j < c → blk B s j = blk B' s' j) {m m' s s' : Nat → Int32} : ∀ i, (∀ j, j < 64 * i → m j = m' j) → (∀ j, j < c → s j = s' j) → ∀ j, j < c → hIt blk m s i j = hIt blk m' s' i j := by
  intro i
  induction i with
  | zero => intro _ h j hj; exact h j hj
  | succ i ih => intro h1 h2 j hj; exact hb _ _ _ _ (fun j hj => h1 _ (by omega)) (ih (fun j hj => h1 j (by omega)) h2) j hj
def hSblk (B s : Nat → Int32) : Nat → Int32 := hBlk hK B (fun _ => 0) s
theorem hSblk_congr {B B' s s' : Nat → Int32} (h2 : ∀ j, j < 64 → B j = B' j) (h3 : ∀ j, j < 8 → s j = s' j) : ∀ j, j < 8 → hSblk B s j = hSblk B' s' j := hBlk_congr (fun _ _ => rfl) h2 h3
theorem hPad_congr {hi : Bool} {n : Nat} {f g : Nat → Int32} (h : ∀ j, j < n → f j = g j) (k : Nat) : hPad hi n f k = hPad hi n g k := by
  unfold hPad
  by_cases e : k < n
  · rw [if_pos e, if_pos e, h k e]
  · rw [if_neg e, if_neg e]
/-- SHA-256 and RIPEMD-160 of n bytes -/
def hSha (n : Nat) (f : Nat → Int32) (j : Nat) : Int32 := ((hIt hSblk (hPad true n f) hB0 (hAll n / 64) (j / 4)) >>> ((Int32.ofNat (24 - 8 * (j % 4))) &&& 31) : Int32) &&& 255
def hRip (n : Nat) (f : Nat → Int32) (j : Nat) : Int32 := ((hIt rBlk (hPad false n f) hR0 (hAll n / 64) (j / 4)) >>> ((Int32.ofNat (8 * (j % 4))) &&& 31) : Int32) &&& 255
theorem hSha_congr {n : Nat} {f g : Nat → Int32} (h : ∀ j, j < n → f j = g j) {j : Nat} (hj : j < 32) : hSha n f j = hSha n g j := by
  unfold hSha
  rw [hIt_congr (c := 8) (fun _ _ _ _ h2 h3 => hSblk_congr h2 h3) _ (fun j _ => hPad_congr h j) (fun _ _ => rfl) (j / 4) (by omega)]
theorem hRip_congr {n : Nat} {f g : Nat → Int32} (h : ∀ j, j < n → f j = g j) {j : Nat} (hj : j < 20) : hRip n f j = hRip n g j := by
  unfold hRip
  rw [hIt_congr (c := 5) (fun _ _ _ _ h2 h3 => rBlk_congr h2 h3) _ (fun j _ => hPad_congr h j) (fun _ _ => rfl) (j / 4) (by omega)]
/-- by sort: 0 SHA-256, 1 HASH256, 2 RIPEMD-160, 3 HASH160 -/
def hBy (s n : Nat) (f : Nat → Int32) (j : Nat) : Int32 := match s with
  | 0 => hSha n f j
  | 1 => hSha 32 (hSha n f) j
  | 2 => hRip n f j
  | _ => hRip 32 (hSha n f) j
def hSz (s : Nat) : Nat := if s < 2 then 32 else 20
theorem hBy_congr {s n : Nat} {f g : Nat → Int32} (h : ∀ j, j < n → f j = g j) {j : Nat} (hj : j < hSz s) : hBy s n f j = hBy s n g j := by
  have h1 : ∀ j, j < 32 → hSha n f j = hSha n g j := fun j hj => hSha_congr h hj
  unfold hBy hSz at *
  split
  · exact hSha_congr h (by simpa using hj)
  · exact hSha_congr h1 (by simpa using hj)
  · exact hRip_congr h (by simpa using hj)
  · refine hRip_congr h1 ?_
    split at hj
    · rename_i h3; simp_all; omega
    · exact hj
theorem hLb_eq {n : Nat} (hn : n ≤ 200) {k : Nat} (hk : k < 8) : (zit (4 ≤ k) 0 ((Int32.ofNat (8 * n)) >>> ((Int32.ofNat (8 * k)) &&& 31) : Int32)) &&& (255 : Int32) = hLb n k := by
  have h1 : ∀ n, n < 201 → ∀ k, k < 4 → ((Int32.ofNat (8 * n)) >>> ((Int32.ofNat (8 * k)) &&& 31) : Int32) &&& (255 : Int32) = Int32.ofNat (8 * n / 256 ^ k % 256) := by decide +kernel
  have h2 : ∀ n, n < 201 → ∀ k, k < 8 → 4 ≤ k → Int32.ofNat (8 * n / 256 ^ k % 256) = 0 := by decide +kernel
  unfold hLb
  by_cases h : 4 ≤ k
  · rw [zit_pos h, h2 n (by omega) k hk h]; rfl
  · rw [zit_neg h]; exact h1 n (by omega) k (by omega)

