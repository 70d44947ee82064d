/-! ===== SHA-256's block, plainly ===== -/
def hW0 (B : Nat → Int32) (k : Nat) : Int32 := ((((B (4 * k)) <<< (24 &&& 31)) ||| ((B ((4 * k) + 1)) <<< (16 &&& 31))) ||| ((B ((4 * k) + 2)) <<< (8 &&& 31))) ||| (B ((4 * k) + 3))
def hSch (w : Nat → Int32) (k : Nat) : Int32 := (((w (k - 16)) + (((hR (w (k - 15)) 7) ^^^ (hR (w (k - 15)) 18)) ^^^ (((w (k - 15)).toUInt32 >>> (Int32.toUInt32 3 &&& Int32.toUInt32 31)).toInt32))) + (w (k - 7))) + (((hR (w (k - 2)) 17) ^^^ (hR (w (k - 2)) 19)) ^^^ (((w (k - 2)).toUInt32 >>> (Int32.toUInt32 10 &&& Int32.toUInt32 31)).toInt32))
def hT1 (c w e f g h : Int32) : Int32 := (((h + (((hR e 6) ^^^ (hR e 11)) ^^^ (hR e 25))) + ((e &&& f) ^^^ ((e ^^^ (-1)) &&& g))) + c) + w
def hT2 (a b c : Int32) : Int32 := (((hR a 2) ^^^ (hR a 13)) ^^^ (hR a 22)) + (((a &&& b) ^^^ (a &&& c)) ^^^ (b &&& c))
def itW (f : (Nat → Int32) → Nat → Int32) : Nat → Nat → (Nat → Int32) → Nat → Int32
  | 0, _, w => w
  | m + 1, k, w => itW f m (k + 1) (fun j => if j = k then f w k else w j)
abbrev h8 : Type := Int32 × Int32 × Int32 × Int32 × Int32 × Int32 × Int32 × Int32
def hRnd (cs w : Nat → Int32) (k : Nat) (x : h8) : h8 :=
  (hT1 (cs k) (w k) x.2.2.2.2.1 x.2.2.2.2.2.1 x.2.2.2.2.2.2.1 x.2.2.2.2.2.2.2 + hT2 x.1 x.2.1 x.2.2.1, x.1, x.2.1, x.2.2.1, x.2.2.2.1 + hT1 (cs k) (w k) x.2.2.2.2.1 x.2.2.2.2.2.1 x.2.2.2.2.2.2.1 x.2.2.2.2.2.2.2, x.2.2.2.2.1, x.2.2.2.2.2.1, x.2.2.2.2.2.2.1)
def hRnds (cs w : Nat → Int32) : Nat → Nat → h8 → h8
  | 0, _, x => x
  | m + 1, k, x => hRnds cs w m (k + 1) (hRnd cs w k x)
def h8of (s : Nat → Int32) : h8 := (s 0, s 1, s 2, s 3, s 4, s 5, s 6, s 7)
def h8at (x : h8) (s : Nat → Int32) (j : Nat) : Int32 := match j with
  | 0 => s 0 + x.1
  | 1 => s 1 + x.2.1
  | 2 => s 2 + x.2.2.1
  | 3 => s 3 + x.2.2.2.1
  | 4 => s 4 + x.2.2.2.2.1
  | 5 => s 5 + x.2.2.2.2.2.1
  | 6 => s 6 + x.2.2.2.2.2.2.1
  | 7 => s 7 + x.2.2.2.2.2.2.2
  | j => s j
/-- the words, from a row of bytes; the state behind a block -/
def hWds (B w : Nat → Int32) : Nat → Int32 := itW hSch 48 16 (itW (fun _ => hW0 B) 16 0 w)
def hBlk (cs B w s : Nat → Int32) : Nat → Int32 := h8at (hRnds cs (hWds B w) 64 0 (h8of s)) s
theorem sAf_sA (S : zS) (a j : Nat) (v : Int32) (f : Nat → Int32) : sAf (sA S a j v) a f = sAf S a f := by
  have e : (fun c => if c = a then f else (sA S a j v).2.2.1 c) = fun c => if c = a then f else S.2.2.1 c := by
    funext c
    by_cases h : c = a
    · rw [if_pos h, if_pos h]
    · rw [if_neg h, if_neg h]
      funext i
      show zu S.2.2.1 a j v c i = _
      unfold zu
      rw [if_neg h]
  show (S.1, S.2.1, (fun c => if c = a then f else (sA S a j v).2.2.1 c), S.2.2.2) = _
  rw [e]
  rfl
section X48
variable {d : Nat} {post : Outcome × zS → Prop}
theorem x48_1 : ∀ (m k : Nat) (S : zS), zFin true S → k + m = 16 → zEv d 48 89 [.ref 1, .int (Int32.ofNat 16), .retAddr 0, .retAddr 0, .retAddr 0, .retAddr 0, .retAddr 0, .retAddr 0, .retAddr 0, .retAddr 0, .retAddr 0, .retAddr 0] [] (sAf S 5 (itW (fun _ => hW0 (fun j => gA S 8 j &&& 255)) m k (gA S 5))) post →
    zEv d 48 2 [.ref 1, .int (Int32.ofNat k), .retAddr 0, .retAddr 0, .retAddr 0, .retAddr 0, .retAddr 0, .retAddr 0, .retAddr 0, .retAddr 0, .retAddr 0, .retAddr 0] [] S post := by
  intro m
  induction m with
  | zero =>
    intro k S hF hk h
    refine q48a hF k (by omega) (fun _ => ?_) (fun b => absurd (by omega) b)
    rw [show itW (fun _ => hW0 (fun j => gA S 8 j &&& 255)) 0 k (gA S 5) = gA S 5 from rfl, sAf_self] at h
    exact h
  | succ m ih =>
    intro k S hF hk h
    refine q48a hF k (by omega) (fun b => absurd b (by omega)) (fun _ => ?_)
    refine ih (k + 1) (sA S 5 k (q48a_e1 S k)) hF (by omega) ?_
    rw [sAf_sA]
    exact h
theorem x48_2 (hd : 1 ≤ d) : ∀ (m k : Nat) (S : zS), zFin true S → k + m = 64 → 16 ≤ k →
    zEv d 48 248 [.ref 1, .int (gA S 4 0), .int (gA S 4 1), .int (gA S 4 2), .int (gA S 4 3), .int (gA S 4 4), .int (gA S 4 5), .int (gA S 4 6), .int (gA S 4 7), .int (Int32.ofNat 0), .retAddr 0, .retAddr 0] [] (sAf S 5 (itW hSch m k (gA S 5))) post →
    zEv d 48 89 [.ref 1, .int (Int32.ofNat k), .retAddr 0, .retAddr 0, .retAddr 0, .retAddr 0, .retAddr 0, .retAddr 0, .retAddr 0, .retAddr 0, .retAddr 0, .retAddr 0] [] S post := by
  intro m
  induction m with
  | zero =>
    intro k S hF hk hk2 h
    refine q48b hF hd k (by omega) (by omega) (fun _ => ?_) (fun b => absurd (by omega) b)
    rw [show itW hSch 0 k (gA S 5) = gA S 5 from rfl, sAf_self] at h
    exact h
  | succ m ih =>
    intro k S hF hk hk2 h
    refine q48b hF hd k (by omega) (by omega) (fun b => absurd b (by omega)) (fun _ => ?_)
    refine ih (k + 1) (sA S 5 k (q48b_e1 S k)) hF (by omega) (by omega) ?_
    rw [sAf_sA]
    exact h
theorem x48_3 (hd : 1 ≤ d) (S : zS) (hF : zFin true S) : ∀ (m k : Nat) (x : h8), k + m = 64 → post (.returned none, sAf S 4 (h8at (hRnds (gA S 2) (gA S 5) m k x) (gA S 4))) →
    zEv d 48 248 [.ref 1, .int x.1, .int x.2.1, .int x.2.2.1, .int x.2.2.2.1, .int x.2.2.2.2.1, .int x.2.2.2.2.2.1, .int x.2.2.2.2.2.2.1, .int x.2.2.2.2.2.2.2, .int (Int32.ofNat k), .retAddr 0, .retAddr 0] [] S post := by
  intro m
  induction m with
  | zero =>
    intro k x hk h
    refine q48c hF hd k _ _ _ _ _ _ _ _ (by omega) (fun _ => ?_) (fun b => absurd (by omega) b)
    have e : sAf S 4 (h8at (hRnds (gA S 2) (gA S 5) 0 k x) (gA S 4)) = sA (sA (sA (sA (sA (sA (sA (sA S 4 0 ((gA S 4 0) + x.1)) 4 1 ((gA S 4 1) + x.2.1)) 4 2 ((gA S 4 2) + x.2.2.1)) 4 3 ((gA S 4 3) + x.2.2.2.1)) 4 4 ((gA S 4 4) + x.2.2.2.2.1)) 4 5 ((gA S 4 5) + x.2.2.2.2.2.1)) 4 6 ((gA S 4 6) + x.2.2.2.2.2.2.1)) 4 7 ((gA S 4 7) + x.2.2.2.2.2.2.2) := by
      have s0 : S = sAf S 4 (gA S 4) := (sAf_self S 4).symm
      generalize hg : gA S 4 = g at s0 ⊢
      conv => rhs; rw [s0]
      simp only [sA_sAf]
      congr 1
      funext j
      unfold hRnds
      match j with
      | 0 => rfl
      | 1 => rfl
      | 2 => rfl
      | 3 => rfl
      | 4 => rfl
      | 5 => rfl
      | 6 => rfl
      | 7 => rfl
      | j + 8 => simp [h8at]
    rw [e] at h
    exact h
  | succ m ih =>
    intro k x hk h
    refine q48c hF hd k _ _ _ _ _ _ _ _ (by omega) (fun b => absurd b (by omega)) (fun _ => ?_)
    exact ih (k + 1) (hRnd (gA S 2) (gA S 5) k x) (by omega) h
/-- turnSha: the words and the state -/
theorem x_turnSha (hd : 1 ≤ d) {S : zS} (hF : zFin true S) (h : post (.returned none, sAf (sAf S 5 (hWds (fun j => gA S 8 j &&& 255) (gA S 5))) 4 (hBlk (gA S 2) (fun j => gA S 8 j &&& 255) (gA S 5) (gA S 4)))) : zCall d 48 [.ref 1] S post := by
  refine q48 hF (x48_1 16 0 S hF rfl ?_)
  refine x48_2 hd 48 16 _ hF rfl (by omega) ?_
  rw [sAf_sAf, show gA (sAf S 5 (itW (fun _ => hW0 (fun j => gA S 8 j &&& 255)) 16 0 (gA S 5))) 5 = itW (fun _ => hW0 (fun j => gA S 8 j &&& 255)) 16 0 (gA S 5) from rfl]
  unfold hBlk at h
  have hW : itW hSch 48 16 (itW (fun _ => hW0 (fun j => gA S 8 j &&& 255)) 16 0 (gA S 5)) = hWds (fun j => gA S 8 j &&& 255) (gA S 5) := rfl
  rw [hW]
  generalize hWds (fun j => gA S 8 j &&& 255) (gA S 5) = W at h ⊢
  refine x48_3 hd (sAf S 5 W) hF 64 0 (h8of (gA S 4)) (by omega) ?_
  rw [show gA (sAf S 5 W) 2 = gA S 2 from rfl, show gA (sAf S 5 W) 5 = W from rfl, show gA (sAf S 5 W) 4 = gA S 4 from rfl]
  exact h
end X48
