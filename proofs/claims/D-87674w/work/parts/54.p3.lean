/-! ===== the twin's block ===== -/
theorem hM4bv (b0 b1 b2 b3 : BitVec 32) : (((((((0#32 <<< 8#32) ||| b0) <<< 8#32) ||| b1) <<< 8#32) ||| b2) <<< 8#32) ||| b3 = (((b0 <<< 24#32) ||| (b1 <<< 16#32)) ||| (b2 <<< 8#32)) ||| b3 := by
  have n8 : (8#32).toNat = 8 := rfl
  have n16 : (16#32).toNat = 16 := rfl
  have n24 : (24#32).toNat = 24 := rfl
  simp only [BitVec.shiftLeft_eq', n8, n16, n24]
  simp only [BitVec.shiftLeft_or_distrib, ← BitVec.shiftLeft_add, BitVec.zero_shiftLeft, BitVec.zero_or]
theorem hM4 (b0 b1 b2 b3 : Int32) : (((((((((0 : Int32) <<< (8 &&& 31)) ||| b0) <<< (8 &&& 31)) ||| b1) <<< (8 &&& 31)) ||| b2) <<< (8 &&& 31)) ||| b3) = ((((b0 <<< (24 &&& 31)) ||| (b1 <<< (16 &&& 31))) ||| (b2 <<< (8 &&& 31))) ||| b3) := by
  have e8 : ((8 &&& 31 : Int32)).toBitVec.smod 32 = 8#32 := by decide +kernel
  have e16 : ((16 &&& 31 : Int32)).toBitVec.smod 32 = 16#32 := by decide +kernel
  have e24 : ((24 &&& 31 : Int32)).toBitVec.smod 32 = 24#32 := by decide +kernel
  have e0 : (0 : Int32).toBitVec = 0#32 := by decide +kernel
  apply Int32.toBitVec_inj.mp
  generalize (8 &&& 31 : Int32) = c8 at *
  generalize (16 &&& 31 : Int32) = c16 at *
  generalize (24 &&& 31 : Int32) = c24 at *
  generalize (0 : Int32) = c0 at *
  simp only [Int32.toBitVec_or, Int32.toBitVec_shiftLeft]
  rw [e8, e16, e24, e0]
  exact hM4bv _ _ _ _
theorem sA_same (S : zS) (a j : Nat) : sA S a j (gA S a j) = S := by
  have e : zu S.2.2.1 a j (gA S a j) = S.2.2.1 := by
    funext c i
    unfold zu
    by_cases h : c = a
    · rw [if_pos h]
      by_cases h2 : i = j
      · rw [if_pos h2, h, h2]; rfl
      · rw [if_neg h2]
    · rw [if_neg h]
  show (S.1, S.2.1, zu S.2.2.1 a j (gA S a j), S.2.2.2) = _
  rw [e]
theorem sA_sA (S : zS) (a j : Nat) (v w : Int32) : sA (sA S a j v) a j w = sA S a j w := by
  have e : zu (zu S.2.2.1 a j v) a j w = zu S.2.2.1 a j w := by
    funext c i
    unfold zu
    by_cases h : c = a
    · by_cases h2 : i = j
      · simp [h, h2]
      · simp [h, h2]
    · simp [h]
  show (S.1, S.2.1, zu (zu S.2.2.1 a j v) a j w, S.2.2.2) = _
  rw [e]
  rfl
theorem gA_sA (S : zS) (a j : Nat) (v : Int32) : gA (sA S a j v) a j = v := by
  show zu S.2.2.1 a j v a j = v
  unfold zu
  rw [if_pos rfl, if_pos rfl]
def hM (B : Nat → Int32) : Nat → Nat → Int32 → Int32
  | 0, _, v => v
  | m + 1, i, v => hM B m (i + 1) ((v <<< (8 &&& 31)) ||| B i)
section M107
variable {d : Nat} {post : Outcome × zS → Prop}
theorem m107_i (at0 k : Nat) (ha : at0 ≤ 192) (hk : k < 16) : ∀ (m i : Nat) (S : zS), zFin true S → i + m = 4 →
    zEv d 107 2 [.ref 1592, .int (Int32.ofNat at0), .int (Int32.ofNat (k + 1)), .retAddr 0, .retAddr 0, .retAddr 0, .retAddr 0, .retAddr 0, .retAddr 0, .retAddr 0, .retAddr 0, .retAddr 0, .retAddr 0] [] (sA S 1596 k (hM (fun i => gA S 1594 ((at0 + (4 * k)) + i)) m i (gA S 1596 k))) post →
    zEv d 107 17 [.ref 1592, .int (Int32.ofNat at0), .int (Int32.ofNat k), .int (Int32.ofNat i), .retAddr 0, .retAddr 0, .retAddr 0, .retAddr 0, .retAddr 0, .retAddr 0, .retAddr 0, .retAddr 0, .retAddr 0] [] S post := by
  intro m
  induction m with
  | zero =>
    intro i S hF hi h
    refine q107a2 hF at0 k i ha hk (by omega) (fun _ => ?_) (fun b => absurd (by omega) b)
    rw [show hM (fun i => gA S 1594 ((at0 + (4 * k)) + i)) 0 i (gA S 1596 k) = gA S 1596 k from rfl, sA_same] at h
    exact h
  | succ m ih =>
    intro i S hF hi h
    refine q107a2 hF at0 k i ha hk (by omega) (fun b => absurd b (by omega)) (fun _ => ?_)
    refine ih (i + 1) (sA S 1596 k (q107a2_e1 S at0 k i)) hF (by omega) ?_
    rw [sA_sA, gA_sA]
    exact h
theorem m107_1 (at0 : Nat) (ha : at0 ≤ 192) : ∀ (m k : Nat) (S : zS), zFin true S → k + m = 16 →
    zEv d 107 65 [.ref 1592, .retAddr 0, .int (Int32.ofNat 16), .retAddr 0, .retAddr 0, .retAddr 0, .retAddr 0, .retAddr 0, .retAddr 0, .retAddr 0, .retAddr 0, .retAddr 0, .retAddr 0] [] (sAf S 1596 (itW (fun _ => hW0 (fun j => gA S 1594 (at0 + j))) m k (gA S 1596))) post →
    zEv d 107 2 [.ref 1592, .int (Int32.ofNat at0), .int (Int32.ofNat k), .retAddr 0, .retAddr 0, .retAddr 0, .retAddr 0, .retAddr 0, .retAddr 0, .retAddr 0, .retAddr 0, .retAddr 0, .retAddr 0] [] S post := by
  intro m
  induction m with
  | zero =>
    intro k S hF hk h
    refine q107a hF at0 k ha (by omega) (fun _ => ?_) (fun b => absurd (by omega) b)
    rw [show itW (fun _ => hW0 (fun j => gA S 1594 (at0 + j))) 0 k (gA S 1596) = gA S 1596 from rfl, sAf_self] at h
    exact h
  | succ m ih =>
    intro k S hF hk h
    refine q107a hF at0 k ha (by omega) (fun b => absurd b (by omega)) (fun _ => ?_)
    refine m107_i at0 k ha (by omega) 4 0 (sA S 1596 k 0) hF rfl ?_
    rw [sA_sA, gA_sA]
    have e : hM (fun i => gA (sA S 1596 k 0) 1594 ((at0 + (4 * k)) + i)) 4 0 0 = hW0 (fun j => gA S 1594 (at0 + j)) k := by
      show (((((((((0 : Int32) <<< (8 &&& 31)) ||| gA S 1594 ((at0 + (4 * k)) + 0)) <<< (8 &&& 31)) ||| gA S 1594 ((at0 + (4 * k)) + 1)) <<< (8 &&& 31)) ||| gA S 1594 ((at0 + (4 * k)) + 2)) <<< (8 &&& 31)) ||| gA S 1594 ((at0 + (4 * k)) + 3)) = _
      rw [hM4]
      unfold hW0
      simp only [Nat.add_assoc, Nat.add_zero]
    rw [e]
    refine ih (k + 1) _ hF (by omega) ?_
    rw [sAf_sA]
    exact h
theorem m107_2 (hd : 1 ≤ d) : ∀ (m k : Nat) (S : zS), zFin true S → k + m = 64 → 16 ≤ k →
    zEv d 107 229 [.ref 1592, .retAddr 0, .int (gA S 1597 0), .int (gA S 1597 1), .int (gA S 1597 2), .int (gA S 1597 3), .int (gA S 1597 4), .int (gA S 1597 5), .int (gA S 1597 6), .int (gA S 1597 7), .int (Int32.ofNat 0), .retAddr 0, .retAddr 0] [] (sAf S 1596 (itW hSch m k (gA S 1596))) post →
    zEv d 107 65 [.ref 1592, .retAddr 0, .int (Int32.ofNat k), .retAddr 0, .retAddr 0, .retAddr 0, .retAddr 0, .retAddr 0, .retAddr 0, .retAddr 0, .retAddr 0, .retAddr 0, .retAddr 0] [] S post := by
  intro m
  induction m with
  | zero =>
    intro k S hF hk hk2 h
    refine q107b hF hd k (by omega) (by omega) (fun _ => ?_) (fun b => absurd (by omega) b)
    rw [show itW hSch 0 k (gA S 1596) = gA S 1596 from rfl, sAf_self] at h
    exact h
  | succ m ih =>
    intro k S hF hk hk2 h
    refine q107b hF hd k (by omega) (by omega) (fun b => absurd b (by omega)) (fun _ => ?_)
    refine ih (k + 1) (sA S 1596 k (q107b_e1 S k)) hF (by omega) (by omega) ?_
    rw [sAf_sA]
    exact h
theorem m107_3 (hd : 1 ≤ d) (S : zS) (hF : zFin true S) : ∀ (m k : Nat) (x : h8), k + m = 64 → post (.returned none, sAf S 1597 (h8at (hRnds (gA S 1598) (gA S 1596) m k x) (gA S 1597))) →
    zEv d 107 229 [.ref 1592, .retAddr 0, .int x.1, .int x.2.1, .int x.2.2.1, .int x.2.2.2.1, .int x.2.2.2.2.1, .int x.2.2.2.2.2.1, .int x.2.2.2.2.2.2.1, .int x.2.2.2.2.2.2.2, .int (Int32.ofNat k), .retAddr 0, .retAddr 0] [] S post := by
  intro m
  induction m with
  | zero =>
    intro k x hk h
    refine q107c hF hd k _ _ _ _ _ _ _ _ (by omega) (fun _ => ?_) (fun b => absurd (by omega) b)
    have e : sAf S 1597 (h8at (hRnds (gA S 1598) (gA S 1596) 0 k x) (gA S 1597)) = sA (sA (sA (sA (sA (sA (sA (sA S 1597 0 ((gA S 1597 0) + x.1)) 1597 1 ((gA S 1597 1) + x.2.1)) 1597 2 ((gA S 1597 2) + x.2.2.1)) 1597 3 ((gA S 1597 3) + x.2.2.2.1)) 1597 4 ((gA S 1597 4) + x.2.2.2.2.1)) 1597 5 ((gA S 1597 5) + x.2.2.2.2.2.1)) 1597 6 ((gA S 1597 6) + x.2.2.2.2.2.2.1)) 1597 7 ((gA S 1597 7) + x.2.2.2.2.2.2.2) := by
      have s0 : S = sAf S 1597 (gA S 1597) := (sAf_self S 1597).symm
      generalize hg : gA S 1597 = g at s0 ⊢
      conv => rhs; rw [s0]
      simp only [sA_sAf]
      congr 1
      funext j
      unfold hRnds
      match j with
      | 0 => rfl
      | 1 => rfl
      | 2 => rfl
      | 3 => rfl
      | 4 => rfl
      | 5 => rfl
      | 6 => rfl
      | 7 => rfl
      | j + 8 => simp [h8at]
    rw [e] at h
    exact h
  | succ m ih =>
    intro k x hk h
    refine q107c hF hd k _ _ _ _ _ _ _ _ (by omega) (fun b => absurd b (by omega)) (fun _ => ?_)
    exact ih (k + 1) (hRnd (gA S 1598) (gA S 1596) k x) (by omega) h
theorem m_shaBlock (hd : 1 ≤ d) {S : zS} (hF : zFin true S) (at0 : Nat) (ha : at0 ≤ 192) (h : post (.returned none, sAf (sAf S 1596 (hWds (fun j => gA S 1594 (at0 + j)) (gA S 1596))) 1597 (hBlk (gA S 1598) (fun j => gA S 1594 (at0 + j)) (gA S 1596) (gA S 1597)))) : zCall d 107 [.ref 1592, .int (Int32.ofNat at0)] S post := by
  refine q107 hF at0 ha (m107_1 at0 ha 16 0 S hF rfl ?_)
  refine m107_2 hd 48 16 _ hF rfl (by omega) ?_
  rw [sAf_sAf, show gA (sAf S 1596 (itW (fun _ => hW0 (fun j => gA S 1594 (at0 + j))) 16 0 (gA S 1596))) 1596 = itW (fun _ => hW0 (fun j => gA S 1594 (at0 + j))) 16 0 (gA S 1596) from rfl]
  unfold hBlk at h
  have hW : itW hSch 48 16 (itW (fun _ => hW0 (fun j => gA S 1594 (at0 + j))) 16 0 (gA S 1596)) = hWds (fun j => gA S 1594 (at0 + j)) (gA S 1596) := rfl
  rw [hW]
  generalize hWds (fun j => gA S 1594 (at0 + j)) (gA S 1596) = W at h ⊢
  refine m107_3 hd (sAf S 1596 W) hF 64 0 (h8of (gA S 1597)) (by omega) ?_
  rw [show gA (sAf S 1596 W) 1598 = gA S 1598 from rfl, show gA (sAf S 1596 W) 1596 = W from rfl, show gA (sAf S 1596 W) 1597 = gA S 1597 from rfl]
  exact h
end M107
