set_option maxRecDepth 100000
/-! ===== the house's hashes ===== -/
/-- a byte with its sign -/
def sg (v : Int32) : Int32 := v.toInt8.toInt32
theorem bv255 : ∀ i, i < 32 → (255#32).getLsbD i = decide (i < 8) := by decide
theorem sg_255 (v : Int32) : sg v &&& 255 = v &&& 255 := by
  unfold sg
  apply Int32.toBitVec_inj.mp
  have e : (255 : Int32).toBitVec = 255#32 := by decide +kernel
  rw [Int32.toBitVec_and, Int32.toBitVec_and, e, Int8.toBitVec_toInt32, Int32.toBitVec_toInt8]
  apply BitVec.eq_of_getLsbD_eq
  intro i hi
  rw [BitVec.getLsbD_and, BitVec.getLsbD_and, bv255 i hi]
  by_cases h : i < 8
  · rw [BitVec.getLsbD_signExtend, BitVec.getLsbD_signExtend, if_pos h, if_pos hi]
    simp [h, hi]
  · simp [h]
theorem sg_and (v : Int32) : sg (v &&& 255) = sg v := by
  unfold sg
  have h : (v &&& 255).toInt8 = v.toInt8 := by
    apply Int8.toBitVec_inj.mp
    have e : (255 : Int32).toBitVec = 255#32 := by decide +kernel
    rw [Int32.toBitVec_toInt8, Int32.toBitVec_toInt8, Int32.toBitVec_and, e]
    apply BitVec.eq_of_getLsbD_eq
    intro i hi
    rw [BitVec.getLsbD_signExtend, BitVec.getLsbD_signExtend, if_pos (by omega), if_pos (by omega), BitVec.getLsbD_and, bv255 i (by omega)]
    simp [hi]
  rw [h]
theorem sg_sg (v : Int32) : sg (sg v) = sg v := zi_i2b v
theorem hLb_x {n : Nat} (hn : n ≤ 128) {p : Nat} (hp : p < 8) : (Int64.toInt32 (((8 : Int64) * (Int32.toInt64 (Int32.ofNat n))) >>> (Int32.toInt64 (Int32.ofNat (8 * p)) &&& 63) : Int64)) &&& 255 = hLb n p := by
  have h1 : ∀ n, n < 129 → ∀ p, p < 8 → (Int64.toInt32 (((8 : Int64) * (Int32.toInt64 (Int32.ofNat n))) >>> (Int32.toInt64 (Int32.ofNat (8 * p)) &&& 63) : Int64)) &&& 255 = Int32.ofNat (8 * n / 256 ^ p % 256) := by decide +kernel
  exact h1 n (by omega) p hp
theorem zTK.lit {as : List Nat} {S S' : zS} (k : zTK [] as S S') (h : zLits S) (ha : ∀ a ∈ as, a < zLB) : zLits S' := by
  have e : S' = zM S (gI S') (gA S') := by
    obtain ⟨i, p, a, r⟩ := S'
    obtain ⟨i0, p0, a0, r0⟩ := S
    obtain ⟨⟨h1, h2⟩, -⟩ := k
    simp only at h1 h2
    subst h1
    subst h2
    rfl
  rw [e]
  exact h.zM (fun s _ => k.I (by decide) s) (fun v hv => k.2.2 v (fun x => absurd (ha v x) (by omega)))
/-- the house's constants of hashes -/
def xC (S : zS) : Prop := (∀ k, k < 64 → gA S 2 k = hK k) ∧ (∀ k, k < 8 → gA S 3 k = hB0 k) ∧ zLits S
theorem xC.k {S S' : zS} {as : List Nat} (h : xC S) (k : zTK [] as S S') (h2 : 2 ∉ as) (h3 : 3 ∉ as) (ha : ∀ a ∈ as, a < zLB) : xC S' :=
  ⟨fun j hj => (k.A h2).trans (h.1 j hj), fun j hj => (k.A h3).trans (h.2.1 j hj), k.lit h.2.2 ha⟩
section X1
variable {d : Nat} {post : Outcome × zS → Prop}
theorem x_turn1 (hd : 1 ≤ d) {S : zS} (hF : zFin true S) (hc : xC S) (h : ∀ S', zTK [] [4, 5, 6, 7] S S' → (∀ j, j < 8 → gA S' 4 j = hSblk (fun j => gA S 8 j &&& 255) (gA S 4) j) → post (.returned none, S')) : zCall d 48 [.ref 1] S post := by
  refine x_turnSha hd hF (h _ ((zTK_sAf (by decide)).tr (zTK_sAf (by decide))) (fun j hj => ?_))
  show hBlk (gA S 2) (fun j => gA S 8 j &&& 255) (gA S 5) (gA S 4) j = _
  exact hBlk_congr hc.1 (fun _ _ => rfl) (fun _ _ => rfl) j hj
theorem x_turn0 (hd : 6 ≤ d) {S : zS} (hF : zFin true S) (hc : xC S) (h : ∀ S', zTK [] [4, 5, 6, 7] S S' → (∀ j, j < 5 → gA S' 4 j = rBlk (fun j => gA S 8 j &&& 255) (gA S 4) j) → post (.returned none, S')) : zCall d 50 [.ref 1] S post := by
  refine x_turnRipemd hd hF hc.2.2 (fun f hf h4 => h _ ⟨⟨rfl, rfl⟩, fun _ _ _ => rfl, fun a ha => hf a ha⟩ h4)
end X1
theorem tk01 {d : Nat} {S : zS} (hF : zFin true S) (a n : Nat) (hn : n ≤ 128) {post : Outcome × zS → Prop} (h1 : zEv d 47 26 [.ref 1, .ref a, .int (Int32.ofNat n), .int (Int32.ofNat 1), .int (Int32.ofNat (((n + 72) / 64) * 64)), .long ((8 : Int64) * (Int32.toInt64 (Int32.ofNat n))), .retAddr 0, .int (Int32.ofNat 0), .retAddr 0, .retAddr 0] [] S post) : zCall d 47 [.ref 1, .ref a, .int (Int32.ofNat n), .int 1] S post := by
  have ht : ztab 47 = ztb47 := rfl
  show zEv d 47 0 [.ref 1, .ref a, .int (Int32.ofNat n), .int 1, .retAddr 0, .retAddr 0, .retAddr 0, .retAddr 0, .retAddr 0, .retAddr 0] [] S post
  refine zv_c1 ht rfl rfl (zv_c1 ht rfl rfl ?_)
  refine zv_e1 (x := Int32.ofNat (n + 9)) ht rfl rfl (zi_addE (a := n) (b := 9) rfl rfl) ?_
  refine zv_c1 ht rfl rfl ?_
  refine zv_e1 (x := Int32.ofNat (n + 72)) ht rfl rfl (zi_addE (a := n + 9) (b := 63) rfl rfl) ?_
  refine zv_c1 ht rfl rfl ?_
  refine zv_ei (x := Int32.ofNat ((n + 72) / 64)) ht rfl rfl (zi_nz (a := 64) rfl (by omega) (by omega)) (zi_divE (a := (n + 72)) (b := 64) rfl rfl (by omega) (by omega)) ?_
  refine zv_c1 ht rfl rfl ?_
  refine zv_e1 (x := Int32.ofNat (((n + 72) / 64) * 64)) ht rfl rfl (zi_mulE (a := (n + 72) / 64) (b := 64) rfl rfl) ?_
  refine zv_c2 (L' := [.ref 1, .ref a, .int (Int32.ofNat n), .int 1, .int (Int32.ofNat (((n + 72) / 64) * 64)), .retAddr 0, .retAddr 0, .retAddr 0, .retAddr 0, .retAddr 0]) ht rfl rfl ?_
  refine zv_c1 ht rfl rfl (zv_c1 ht rfl rfl ?_)
  refine zv_c1 (st' := [.long (Int32.toInt64 (Int32.ofNat n)), .long 8]) (S' := S) ht rfl rfl ?_
  refine zv_c1 (st' := [.long ((8 : Int64) * (Int32.toInt64 (Int32.ofNat n)))]) (S' := S) ht rfl rfl ?_
  refine zv_c2 (L' := [.ref 1, .ref a, .int (Int32.ofNat n), .int 1, .int (Int32.ofNat (((n + 72) / 64) * 64)), .long ((8 : Int64) * (Int32.toInt64 (Int32.ofNat n))), .retAddr 0, .retAddr 0, .retAddr 0, .retAddr 0]) ht rfl rfl ?_
  refine zv_c1 ht rfl rfl ?_
  refine zv_c2 (L' := [.ref 1, .ref a, .int (Int32.ofNat n), .int 1, .int (Int32.ofNat (((n + 72) / 64) * 64)), .long ((8 : Int64) * (Int32.toInt64 (Int32.ofNat n))), .retAddr 0, .int 0, .retAddr 0, .retAddr 0]) ht rfl rfl ?_
  exact h1

theorem tk00 {d : Nat} {S : zS} (hF : zFin true S) (a n : Nat) (hn : n ≤ 128) {post : Outcome × zS → Prop} (h1 : zEv d 47 26 [.ref 1, .ref a, .int (Int32.ofNat n), .int (Int32.ofNat 0), .int (Int32.ofNat (((n + 72) / 64) * 64)), .long ((8 : Int64) * (Int32.toInt64 (Int32.ofNat n))), .retAddr 0, .int (Int32.ofNat 0), .retAddr 0, .retAddr 0] [] S post) : zCall d 47 [.ref 1, .ref a, .int (Int32.ofNat n), .int 0] S post := by
  have ht : ztab 47 = ztb47 := rfl
  show zEv d 47 0 [.ref 1, .ref a, .int (Int32.ofNat n), .int 0, .retAddr 0, .retAddr 0, .retAddr 0, .retAddr 0, .retAddr 0, .retAddr 0] [] S post
  refine zv_c1 ht rfl rfl (zv_c1 ht rfl rfl ?_)
  refine zv_e1 (x := Int32.ofNat (n + 9)) ht rfl rfl (zi_addE (a := n) (b := 9) rfl rfl) ?_
  refine zv_c1 ht rfl rfl ?_
  refine zv_e1 (x := Int32.ofNat (n + 72)) ht rfl rfl (zi_addE (a := n + 9) (b := 63) rfl rfl) ?_
  refine zv_c1 ht rfl rfl ?_
  refine zv_ei (x := Int32.ofNat ((n + 72) / 64)) ht rfl rfl (zi_nz (a := 64) rfl (by omega) (by omega)) (zi_divE (a := (n + 72)) (b := 64) rfl rfl (by omega) (by omega)) ?_
  refine zv_c1 ht rfl rfl ?_
  refine zv_e1 (x := Int32.ofNat (((n + 72) / 64) * 64)) ht rfl rfl (zi_mulE (a := (n + 72) / 64) (b := 64) rfl rfl) ?_
  refine zv_c2 (L' := [.ref 1, .ref a, .int (Int32.ofNat n), .int 0, .int (Int32.ofNat (((n + 72) / 64) * 64)), .retAddr 0, .retAddr 0, .retAddr 0, .retAddr 0, .retAddr 0]) ht rfl rfl ?_
  refine zv_c1 ht rfl rfl (zv_c1 ht rfl rfl ?_)
  refine zv_c1 (st' := [.long (Int32.toInt64 (Int32.ofNat n)), .long 8]) (S' := S) ht rfl rfl ?_
  refine zv_c1 (st' := [.long ((8 : Int64) * (Int32.toInt64 (Int32.ofNat n)))]) (S' := S) ht rfl rfl ?_
  refine zv_c2 (L' := [.ref 1, .ref a, .int (Int32.ofNat n), .int 0, .int (Int32.ofNat (((n + 72) / 64) * 64)), .long ((8 : Int64) * (Int32.toInt64 (Int32.ofNat n))), .retAddr 0, .retAddr 0, .retAddr 0, .retAddr 0]) ht rfl rfl ?_
  refine zv_c1 ht rfl rfl ?_
  refine zv_c2 (L' := [.ref 1, .ref a, .int (Int32.ofNat n), .int 0, .int (Int32.ofNat (((n + 72) / 64) * 64)), .long ((8 : Int64) * (Int32.toInt64 (Int32.ofNat n))), .retAddr 0, .int 0, .retAddr 0, .retAddr 0]) ht rfl rfl ?_
  exact h1

theorem tk11 {d : Nat} {S : zS} (hF : zFin true S) (hd : 2 ≤ d) (a n al k : Nat) (bits : Int64) (hn : n ≤ 128) (hl : n ≤ zlen S a) (hk : k ≤ al) (ha : al ≤ 192) (hal : 8 ≤ al) (hc : xC S) (hat : ztyp S a = 101) {post : Outcome × zS → Prop} (h1 : (al ≤ k) → post (.returned none, S)) (h2 : (¬ (al ≤ k)) → (k % 64 = 63) → ∀ G : zS, (zTK [] [4, 5, 6, 7] (sA S 8 (k % 64) ((zit (n ≤ k) (zit (k = n) 128 (zit (k < al - 8) 0 (Int64.toInt32 (bits >>> (Int32.toInt64 (Int32.ofNat (8 * ((al - 1) - k))) &&& 63) : Int64)))) (gA S a k) : Int32).toInt8.toInt32)) G) → (∀ j, j < 8 → gA G 4 j = hSblk (fun j => gA (sA S 8 (k % 64) ((zit (n ≤ k) (zit (k = n) 128 (zit (k < al - 8) 0 (Int64.toInt32 (bits >>> (Int32.toInt64 (Int32.ofNat (8 * ((al - 1) - k))) &&& 63) : Int64)))) (gA S a k) : Int32).toInt8.toInt32)) 8 j &&& 255) (gA (sA S 8 (k % 64) ((zit (n ≤ k) (zit (k = n) 128 (zit (k < al - 8) 0 (Int64.toInt32 (bits >>> (Int32.toInt64 (Int32.ofNat (8 * ((al - 1) - k))) &&& 63) : Int64)))) (gA S a k) : Int32).toInt8.toInt32)) 4) j) → zEv d 47 26 [.ref 1, .ref a, .int (Int32.ofNat n), .int (Int32.ofNat 1), .int (Int32.ofNat al), .long bits, .retAddr 0, .int (Int32.ofNat (k + 1)), .retAddr 0, .retAddr 0] [] G post) (h3 : (¬ (al ≤ k)) → (¬ (k % 64 = 63)) → zEv d 47 26 [.ref 1, .ref a, .int (Int32.ofNat n), .int (Int32.ofNat 1), .int (Int32.ofNat al), .long bits, .retAddr 0, .int (Int32.ofNat (k + 1)), .retAddr 0, .retAddr 0] [] (sA S 8 (k % 64) ((zit (n ≤ k) (zit (k = n) 128 (zit (k < al - 8) 0 (Int64.toInt32 (bits >>> (Int32.toInt64 (Int32.ofNat (8 * ((al - 1) - k))) &&& 63) : Int64)))) (gA S a k) : Int32).toInt8.toInt32)) post) : zEv d 47 26 [.ref 1, .ref a, .int (Int32.ofNat n), .int 1, .int (Int32.ofNat al), .long bits, .retAddr 0, .int (Int32.ofNat k), .retAddr 0, .retAddr 0] [] S post := by
  have ht : ztab 47 = ztb47 := rfl
  refine zv_c1 ht rfl rfl (zv_c1 ht rfl rfl ?_)
  refine zv_br ht rfl rfl rfl (fun b1 => ?_) (fun b1 => ?_)
  · replace b1 : al ≤ k := (zi_leE (a := al) (b := k) rfl rfl (by omega) (by omega)).mp b1
    exact zv_rt ht rfl rfl rfl rfl (h1 b1)
  · replace b1 : ¬ (al ≤ k) := fun h => b1 ((zi_leE (a := al) (b := k) rfl rfl (by omega) (by omega)).mpr h)
    refine zv_c1 ht rfl rfl ?_
    refine zv_br ht rfl rfl rfl (fun h => absurd h (by decide)) (fun _ => ?_)
    refine zv_c1 ht rfl rfl (zv_c1 ht rfl rfl ?_)
    refine zv_e1 (x := Int32.ofNat (al - 1)) ht rfl rfl (zi_subE (a := al) (b := 1) rfl rfl (by omega)) ?_
    refine zv_c1 ht rfl rfl ?_
    refine zv_e1 (x := Int32.ofNat ((al - 1) - k)) ht rfl rfl (zi_subE (a := al - 1) (b := k) rfl rfl (by omega)) ?_
    refine zv_c1 ht rfl rfl ?_
    refine zv_c2 (L' := [.ref 1, .ref a, .int (Int32.ofNat n), .int 1, .int (Int32.ofNat al), .long bits, .retAddr 0, .int (Int32.ofNat k), .int (Int32.ofNat ((al - 1) - k)), .retAddr 0]) ht rfl rfl ?_
    refine zv_c1 ht rfl rfl (zv_c1 ht rfl rfl ?_)
    have J5 : zEv d 47 105 [.ref 1, .ref a, .int (Int32.ofNat n), .int 1, .int (Int32.ofNat al), .long bits, .retAddr 0, .int (Int32.ofNat k), .retAddr 0, .retAddr 0] [.int (zit (n ≤ k) (zit (k = n) 128 (zit (k < al - 8) 0 (Int64.toInt32 (bits >>> (Int32.toInt64 (Int32.ofNat (8 * ((al - 1) - k))) &&& 63) : Int64)))) (gA S a k))] S post := by
      refine zv_c2 (L' := [.ref 1, .ref a, .int (Int32.ofNat n), .int 1, .int (Int32.ofNat al), .long bits, .retAddr 0, .int (Int32.ofNat k), .retAddr 0, .int (zit (n ≤ k) (zit (k = n) 128 (zit (k < al - 8) 0 (Int64.toInt32 (bits >>> (Int32.toInt64 (Int32.ofNat (8 * ((al - 1) - k))) &&& 63) : Int64)))) (gA S a k))]) ht rfl rfl ?_
      refine zv_c1 ht rfl rfl ?_
      refine zv_gl (st' := [.ref 8]) ht rfl hF rfl rfl rfl ?_
      refine zv_c1 ht rfl rfl (zv_c1 ht rfl rfl ?_)
      refine zv_ei (x := Int32.ofNat (k % 64)) ht rfl rfl (zi_nz (a := 64) rfl (by omega) (by omega)) (zi_remE (a := k) (b := 64) rfl rfl (by omega) (by omega)) ?_
      refine zv_c1 ht rfl rfl ?_
      refine zv_c1 (st' := [.int ((zit (n ≤ k) (zit (k = n) 128 (zit (k < al - 8) 0 (Int64.toInt32 (bits >>> (Int32.toInt64 (Int32.ofNat (8 * ((al - 1) - k))) &&& 63) : Int64)))) (gA S a k) : Int32).toInt8.toInt32), .int (Int32.ofNat (k % 64)), .ref 8]) (S' := S) ht rfl rfl ?_
      refine zv_bs (j := k % 64) (x := (zit (n ≤ k) (zit (k = n) 128 (zit (k < al - 8) 0 (Int64.toInt32 (bits >>> (Int32.toInt64 (Int32.ofNat (8 * ((al - 1) - k))) &&& 63) : Int64)))) (gA S a k) : Int32).toInt8.toInt32) ht rfl rfl rfl rfl (zi_natE (a := k % 64) rfl (by omega)) ⟨(Or.inl ⟨rfl, (zi_i2b _)⟩), zi_inE (a := k % 64) (n := 64) rfl (by omega) (by omega)⟩ ?_
      refine zv_c1 ht rfl rfl (zv_c1 ht rfl rfl ?_)
      refine zv_ei (x := Int32.ofNat (k % 64)) ht rfl rfl (zi_nz (a := 64) rfl (by omega) (by omega)) (zi_remE (a := k) (b := 64) rfl rfl (by omega) (by omega)) ?_
      refine zv_c1 ht rfl rfl ?_
      refine zv_br ht rfl rfl rfl (fun b7 => ?_) (fun b7 => ?_)
      · replace b7 : k % 64 = 63 := (zi_eqE (a := (k % 64)) (b := 63) rfl rfl (by omega) (by omega)).mp b7
        refine zv_c1 ht rfl rfl ?_
        refine zv_br ht rfl rfl rfl (fun h => absurd h (by decide)) (fun _ => ?_)
        refine zv_c1 ht rfl rfl ?_
        refine zv_cl ht rfl rfl rfl rfl (by omega) (Nat.le_of_ble_eq_true rfl) (x_turn1 (by omega) (S := sA S 8 (k % 64) ((zit (n ≤ k) (zit (k = n) 128 (zit (k < al - 8) 0 (Int64.toInt32 (bits >>> (Int32.toInt64 (Int32.ofNat (8 * ((al - 1) - k))) &&& 63) : Int64)))) (gA S a k) : Int32).toInt8.toInt32)) hF (hc.k (zTK_sA (as := [8]) (by decide)) (by decide) (by decide) (by decide)) (fun G kG eG => ?_))
        show zEv d 47 141 [.ref 1, .ref a, .int (Int32.ofNat n), .int 1, .int (Int32.ofNat al), .long bits, .retAddr 0, .int (Int32.ofNat k), .retAddr 0, .int (zit (n ≤ k) (zit (k = n) 128 (zit (k < al - 8) 0 (Int64.toInt32 (bits >>> (Int32.toInt64 (Int32.ofNat (8 * ((al - 1) - k))) &&& 63) : Int64)))) (gA S a k))] [] G post
        refine zv_c1 ht rfl rfl ?_
        refine zv_iinc (L' := [.ref 1, .ref a, .int (Int32.ofNat n), .int 1, .int (Int32.ofNat al), .long bits, .retAddr 0, .int (Int32.ofNat (k + 1)), .retAddr 0, .int (zit (n ≤ k) (zit (k = n) 128 (zit (k < al - 8) 0 (Int64.toInt32 (bits >>> (Int32.toInt64 (Int32.ofNat (8 * ((al - 1) - k))) &&& 63) : Int64)))) (gA S a k))]) (i := 7) (x := Int32.ofNat (k + 1)) ht rfl rfl (zi_addE (a := k) (b := 1) rfl rfl) rfl ?_
        refine zv_c1 ht rfl rfl ?_
        exact zEv.wk (L := [.ref 1, .ref a, .int (Int32.ofNat n), .int (Int32.ofNat 1), .int (Int32.ofNat al), .long bits, .retAddr 0, .int (Int32.ofNat (k + 1)), .retAddr 0, .retAddr 0]) (L' := [.ref 1, .ref a, .int (Int32.ofNat n), .int 1, .int (Int32.ofNat al), .long bits, .retAddr 0, .int (Int32.ofNat (k + 1)), .retAddr 0, .int (zit (n ≤ k) (zit (k = n) 128 (zit (k < al - 8) 0 (Int64.toInt32 (bits >>> (Int32.toInt64 (Int32.ofNat (8 * ((al - 1) - k))) &&& 63) : Int64)))) (gA S a k))]) (And.intro (Or.inl rfl) (And.intro (Or.inl rfl) (And.intro (Or.inl rfl) (And.intro (Or.inl rfl) (And.intro (Or.inl rfl) (And.intro (Or.inl rfl) (And.intro (Or.inl rfl) (And.intro (Or.inl rfl) (And.intro (Or.inl rfl) (And.intro (Or.inr rfl) trivial)))))))))) (h2 b1 b7 G kG eG)
      · replace b7 : ¬ (k % 64 = 63) := fun h => b7 ((zi_eqE (a := (k % 64)) (b := 63) rfl rfl (by omega) (by omega)).mpr h)
        refine zv_c1 ht rfl rfl ?_
        refine zv_iinc (L' := [.ref 1, .ref a, .int (Int32.ofNat n), .int 1, .int (Int32.ofNat al), .long bits, .retAddr 0, .int (Int32.ofNat (k + 1)), .retAddr 0, .int (zit (n ≤ k) (zit (k = n) 128 (zit (k < al - 8) 0 (Int64.toInt32 (bits >>> (Int32.toInt64 (Int32.ofNat (8 * ((al - 1) - k))) &&& 63) : Int64)))) (gA S a k))]) (i := 7) (x := Int32.ofNat (k + 1)) ht rfl rfl (zi_addE (a := k) (b := 1) rfl rfl) rfl ?_
        refine zv_c1 ht rfl rfl ?_
        exact zEv.wk (L := [.ref 1, .ref a, .int (Int32.ofNat n), .int (Int32.ofNat 1), .int (Int32.ofNat al), .long bits, .retAddr 0, .int (Int32.ofNat (k + 1)), .retAddr 0, .retAddr 0]) (L' := [.ref 1, .ref a, .int (Int32.ofNat n), .int 1, .int (Int32.ofNat al), .long bits, .retAddr 0, .int (Int32.ofNat (k + 1)), .retAddr 0, .int (zit (n ≤ k) (zit (k = n) 128 (zit (k < al - 8) 0 (Int64.toInt32 (bits >>> (Int32.toInt64 (Int32.ofNat (8 * ((al - 1) - k))) &&& 63) : Int64)))) (gA S a k))]) (And.intro (Or.inl rfl) (And.intro (Or.inl rfl) (And.intro (Or.inl rfl) (And.intro (Or.inl rfl) (And.intro (Or.inl rfl) (And.intro (Or.inl rfl) (And.intro (Or.inl rfl) (And.intro (Or.inl rfl) (And.intro (Or.inl rfl) (And.intro (Or.inr rfl) trivial)))))))))) (h3 b1 b7)
    refine zv_br ht rfl rfl rfl (fun b2 => ?_) (fun b2 => ?_)
    · replace b2 : n ≤ k := (zi_leE (a := n) (b := k) rfl rfl (by omega) (by omega)).mp b2
      refine zv_c1 ht rfl rfl (zv_c1 ht rfl rfl ?_)
      refine zv_br ht rfl rfl rfl (fun b3 => ?_) (fun b3 => ?_)
      · replace b3 : ¬ (k = n) := fun h => b3 ((zi_eqE (a := k) (b := n) rfl rfl (by omega) (by omega)).mpr h)
        refine zv_c1 ht rfl rfl (zv_c1 ht rfl rfl (zv_c1 ht rfl rfl ?_))
        refine zv_e1 (x := Int32.ofNat (al - 8)) ht rfl rfl (zi_subE (a := al) (b := 8) rfl rfl (by omega)) ?_
        refine zv_br ht rfl rfl rfl (fun b4 => ?_) (fun b4 => ?_)
        · replace b4 : k < al - 8 := (zi_ltE (a := k) (b := (al - 8)) rfl rfl (by omega) (by omega)).mp b4
          refine zv_c1 ht rfl rfl ?_
          exact zEv.wk (L := [.ref 1, .ref a, .int (Int32.ofNat n), .int 1, .int (Int32.ofNat al), .long bits, .retAddr 0, .int (Int32.ofNat k), .retAddr 0, .retAddr 0]) (L' := [.ref 1, .ref a, .int (Int32.ofNat n), .int 1, .int (Int32.ofNat al), .long bits, .retAddr 0, .int (Int32.ofNat k), .int (Int32.ofNat ((al - 1) - k)), .retAddr 0]) (And.intro (Or.inl rfl) (And.intro (Or.inl rfl) (And.intro (Or.inl rfl) (And.intro (Or.inl rfl) (And.intro (Or.inl rfl) (And.intro (Or.inl rfl) (And.intro (Or.inl rfl) (And.intro (Or.inl rfl) (And.intro (Or.inr rfl) (And.intro (Or.inl rfl) trivial)))))))))) (zv_sub (zz := zit (n ≤ k) (zit (k = n) 128 (zit (k < al - 8) 0 (Int64.toInt32 (bits >>> (Int32.toInt64 (Int32.ofNat (8 * ((al - 1) - k))) &&& 63) : Int64)))) (gA S a k)) (zy := 0) (p := fun zz => zEv d 47 105 [.ref 1, .ref a, .int (Int32.ofNat n), .int 1, .int (Int32.ofNat al), .long bits, .retAddr 0, .int (Int32.ofNat k), .retAddr 0, .retAddr 0] [.int zz] S post) (Eq.trans (zit_pos b2) (Eq.trans (zit_neg b3) (zit_pos b4))) J5)
        · replace b4 : ¬ (k < al - 8) := fun h => b4 ((zi_ltE (a := k) (b := (al - 8)) rfl rfl (by omega) (by omega)).mpr h)
          refine zv_c1 ht rfl rfl (zv_c1 ht rfl rfl (zv_c1 ht rfl rfl ?_))
          refine zv_e1 (x := Int32.ofNat (8 * ((al - 1) - k))) ht rfl rfl (zi_mulE (a := 8) (b := (al - 1) - k) rfl rfl) ?_
          refine zv_c1 (st' := [.long (bits >>> (Int32.toInt64 (Int32.ofNat (8 * ((al - 1) - k))) &&& 63) : Int64)]) (S' := S) ht rfl rfl ?_
          refine zv_c1 (st' := [.int (Int64.toInt32 (bits >>> (Int32.toInt64 (Int32.ofNat (8 * ((al - 1) - k))) &&& 63) : Int64))]) (S' := S) ht rfl rfl ?_
          refine zv_c1 ht rfl rfl ?_
          exact zEv.wk (L := [.ref 1, .ref a, .int (Int32.ofNat n), .int 1, .int (Int32.ofNat al), .long bits, .retAddr 0, .int (Int32.ofNat k), .retAddr 0, .retAddr 0]) (L' := [.ref 1, .ref a, .int (Int32.ofNat n), .int 1, .int (Int32.ofNat al), .long bits, .retAddr 0, .int (Int32.ofNat k), .int (Int32.ofNat ((al - 1) - k)), .retAddr 0]) (And.intro (Or.inl rfl) (And.intro (Or.inl rfl) (And.intro (Or.inl rfl) (And.intro (Or.inl rfl) (And.intro (Or.inl rfl) (And.intro (Or.inl rfl) (And.intro (Or.inl rfl) (And.intro (Or.inl rfl) (And.intro (Or.inr rfl) (And.intro (Or.inl rfl) trivial)))))))))) (zv_sub (zz := zit (n ≤ k) (zit (k = n) 128 (zit (k < al - 8) 0 (Int64.toInt32 (bits >>> (Int32.toInt64 (Int32.ofNat (8 * ((al - 1) - k))) &&& 63) : Int64)))) (gA S a k)) (zy := Int64.toInt32 (bits >>> (Int32.toInt64 (Int32.ofNat (8 * ((al - 1) - k))) &&& 63) : Int64)) (p := fun zz => zEv d 47 105 [.ref 1, .ref a, .int (Int32.ofNat n), .int 1, .int (Int32.ofNat al), .long bits, .retAddr 0, .int (Int32.ofNat k), .retAddr 0, .retAddr 0] [.int zz] S post) (Eq.trans (zit_pos b2) (Eq.trans (zit_neg b3) (zit_neg b4))) J5)
      · replace b3 : k = n := (zi_eqE (a := k) (b := n) rfl rfl (by omega) (by omega)).mp (Classical.not_not.mp b3)
        refine zv_c1 ht rfl rfl (zv_c1 ht rfl rfl ?_)
        exact zEv.wk (L := [.ref 1, .ref a, .int (Int32.ofNat n), .int 1, .int (Int32.ofNat al), .long bits, .retAddr 0, .int (Int32.ofNat k), .retAddr 0, .retAddr 0]) (L' := [.ref 1, .ref a, .int (Int32.ofNat n), .int 1, .int (Int32.ofNat al), .long bits, .retAddr 0, .int (Int32.ofNat k), .int (Int32.ofNat ((al - 1) - k)), .retAddr 0]) (And.intro (Or.inl rfl) (And.intro (Or.inl rfl) (And.intro (Or.inl rfl) (And.intro (Or.inl rfl) (And.intro (Or.inl rfl) (And.intro (Or.inl rfl) (And.intro (Or.inl rfl) (And.intro (Or.inl rfl) (And.intro (Or.inr rfl) (And.intro (Or.inl rfl) trivial)))))))))) (zv_sub (zz := zit (n ≤ k) (zit (k = n) 128 (zit (k < al - 8) 0 (Int64.toInt32 (bits >>> (Int32.toInt64 (Int32.ofNat (8 * ((al - 1) - k))) &&& 63) : Int64)))) (gA S a k)) (zy := 128) (p := fun zz => zEv d 47 105 [.ref 1, .ref a, .int (Int32.ofNat n), .int 1, .int (Int32.ofNat al), .long bits, .retAddr 0, .int (Int32.ofNat k), .retAddr 0, .retAddr 0] [.int zz] S post) (Eq.trans (zit_pos b2) (zit_pos b3)) J5)
    · replace b2 : ¬ (n ≤ k) := fun h => b2 ((zi_leE (a := n) (b := k) rfl rfl (by omega) (by omega)).mpr h)
      refine zv_c1 ht rfl rfl (zv_c1 ht rfl rfl ?_)
      refine zv_baE (j := k) (x := gA S a k) ht rfl rfl rfl rfl (zi_natE (a := k) rfl (by omega)) ⟨(Or.inl hat), zi_inL (a := k) (m := zlen S a) rfl rfl (by omega) (by omega)⟩ rfl ?_
      refine zv_c1 ht rfl rfl ?_
      exact zEv.wk (L := [.ref 1, .ref a, .int (Int32.ofNat n), .int 1, .int (Int32.ofNat al), .long bits, .retAddr 0, .int (Int32.ofNat k), .retAddr 0, .retAddr 0]) (L' := [.ref 1, .ref a, .int (Int32.ofNat n), .int 1, .int (Int32.ofNat al), .long bits, .retAddr 0, .int (Int32.ofNat k), .int (Int32.ofNat ((al - 1) - k)), .retAddr 0]) (And.intro (Or.inl rfl) (And.intro (Or.inl rfl) (And.intro (Or.inl rfl) (And.intro (Or.inl rfl) (And.intro (Or.inl rfl) (And.intro (Or.inl rfl) (And.intro (Or.inl rfl) (And.intro (Or.inl rfl) (And.intro (Or.inr rfl) (And.intro (Or.inl rfl) trivial)))))))))) (zv_sub (zz := zit (n ≤ k) (zit (k = n) 128 (zit (k < al - 8) 0 (Int64.toInt32 (bits >>> (Int32.toInt64 (Int32.ofNat (8 * ((al - 1) - k))) &&& 63) : Int64)))) (gA S a k)) (zy := gA S a k) (p := fun zz => zEv d 47 105 [.ref 1, .ref a, .int (Int32.ofNat n), .int 1, .int (Int32.ofNat al), .long bits, .retAddr 0, .int (Int32.ofNat k), .retAddr 0, .retAddr 0] [.int zz] S post) (zit_neg b2) J5)

theorem tk10 {d : Nat} {S : zS} (hF : zFin true S) (hd : 7 ≤ d) (a n al k : Nat) (bits : Int64) (hn : n ≤ 128) (hl : n ≤ zlen S a) (hk : k ≤ al) (ha : al ≤ 192) (hal : 8 ≤ al) (hc : xC S) (hat : ztyp S a = 101) {post : Outcome × zS → Prop} (h1 : (al ≤ k) → post (.returned none, S)) (h2 : (¬ (al ≤ k)) → (k % 64 = 63) → ∀ G : zS, (zTK [] [4, 5, 6, 7] (sA S 8 (k % 64) ((zit (n ≤ k) (zit (k = n) 128 (zit (k < al - 8) 0 (Int64.toInt32 (bits >>> (Int32.toInt64 ((8 : Int32) * (((Int32.ofNat k) - (Int32.ofNat al)) + 8)) &&& 63) : Int64)))) (gA S a k) : Int32).toInt8.toInt32)) G) → (∀ j, j < 5 → gA G 4 j = rBlk (fun j => gA (sA S 8 (k % 64) ((zit (n ≤ k) (zit (k = n) 128 (zit (k < al - 8) 0 (Int64.toInt32 (bits >>> (Int32.toInt64 ((8 : Int32) * (((Int32.ofNat k) - (Int32.ofNat al)) + 8)) &&& 63) : Int64)))) (gA S a k) : Int32).toInt8.toInt32)) 8 j &&& 255) (gA (sA S 8 (k % 64) ((zit (n ≤ k) (zit (k = n) 128 (zit (k < al - 8) 0 (Int64.toInt32 (bits >>> (Int32.toInt64 ((8 : Int32) * (((Int32.ofNat k) - (Int32.ofNat al)) + 8)) &&& 63) : Int64)))) (gA S a k) : Int32).toInt8.toInt32)) 4) j) → zEv d 47 26 [.ref 1, .ref a, .int (Int32.ofNat n), .int (Int32.ofNat 0), .int (Int32.ofNat al), .long bits, .retAddr 0, .int (Int32.ofNat (k + 1)), .retAddr 0, .retAddr 0] [] G post) (h3 : (¬ (al ≤ k)) → (¬ (k % 64 = 63)) → zEv d 47 26 [.ref 1, .ref a, .int (Int32.ofNat n), .int (Int32.ofNat 0), .int (Int32.ofNat al), .long bits, .retAddr 0, .int (Int32.ofNat (k + 1)), .retAddr 0, .retAddr 0] [] (sA S 8 (k % 64) ((zit (n ≤ k) (zit (k = n) 128 (zit (k < al - 8) 0 (Int64.toInt32 (bits >>> (Int32.toInt64 ((8 : Int32) * (((Int32.ofNat k) - (Int32.ofNat al)) + 8)) &&& 63) : Int64)))) (gA S a k) : Int32).toInt8.toInt32)) post) : zEv d 47 26 [.ref 1, .ref a, .int (Int32.ofNat n), .int 0, .int (Int32.ofNat al), .long bits, .retAddr 0, .int (Int32.ofNat k), .retAddr 0, .retAddr 0] [] S post := by
  have ht : ztab 47 = ztb47 := rfl
  refine zv_c1 ht rfl rfl (zv_c1 ht rfl rfl ?_)
  refine zv_br ht rfl rfl rfl (fun b1 => ?_) (fun b1 => ?_)
  · replace b1 : al ≤ k := (zi_leE (a := al) (b := k) rfl rfl (by omega) (by omega)).mp b1
    exact zv_rt ht rfl rfl rfl rfl (h1 b1)
  · replace b1 : ¬ (al ≤ k) := fun h => b1 ((zi_leE (a := al) (b := k) rfl rfl (by omega) (by omega)).mpr h)
    refine zv_c1 ht rfl rfl ?_
    refine zv_br ht rfl rfl rfl (fun _ => ?_) (fun h => absurd (by decide) h)
    refine zv_c1 ht rfl rfl (zv_c1 ht rfl rfl ?_)
    refine zv_c1 (st' := [.int ((Int32.ofNat k) - (Int32.ofNat al))]) (S' := S) ht rfl rfl ?_
    refine zv_c1 ht rfl rfl ?_
    refine zv_c1 (st' := [.int (((Int32.ofNat k) - (Int32.ofNat al)) + 8)]) (S' := S) ht rfl rfl ?_
    refine zv_c2 (L' := [.ref 1, .ref a, .int (Int32.ofNat n), .int 0, .int (Int32.ofNat al), .long bits, .retAddr 0, .int (Int32.ofNat k), .int (((Int32.ofNat k) - (Int32.ofNat al)) + 8), .retAddr 0]) ht rfl rfl ?_
    refine zv_c1 ht rfl rfl (zv_c1 ht rfl rfl ?_)
    have J5 : zEv d 47 105 [.ref 1, .ref a, .int (Int32.ofNat n), .int 0, .int (Int32.ofNat al), .long bits, .retAddr 0, .int (Int32.ofNat k), .retAddr 0, .retAddr 0] [.int (zit (n ≤ k) (zit (k = n) 128 (zit (k < al - 8) 0 (Int64.toInt32 (bits >>> (Int32.toInt64 ((8 : Int32) * (((Int32.ofNat k) - (Int32.ofNat al)) + 8)) &&& 63) : Int64)))) (gA S a k))] S post := by
      refine zv_c2 (L' := [.ref 1, .ref a, .int (Int32.ofNat n), .int 0, .int (Int32.ofNat al), .long bits, .retAddr 0, .int (Int32.ofNat k), .retAddr 0, .int (zit (n ≤ k) (zit (k = n) 128 (zit (k < al - 8) 0 (Int64.toInt32 (bits >>> (Int32.toInt64 ((8 : Int32) * (((Int32.ofNat k) - (Int32.ofNat al)) + 8)) &&& 63) : Int64)))) (gA S a k))]) ht rfl rfl ?_
      refine zv_c1 ht rfl rfl ?_
      refine zv_gl (st' := [.ref 8]) ht rfl hF rfl rfl rfl ?_
      refine zv_c1 ht rfl rfl (zv_c1 ht rfl rfl ?_)
      refine zv_ei (x := Int32.ofNat (k % 64)) ht rfl rfl (zi_nz (a := 64) rfl (by omega) (by omega)) (zi_remE (a := k) (b := 64) rfl rfl (by omega) (by omega)) ?_
      refine zv_c1 ht rfl rfl ?_
      refine zv_c1 (st' := [.int ((zit (n ≤ k) (zit (k = n) 128 (zit (k < al - 8) 0 (Int64.toInt32 (bits >>> (Int32.toInt64 ((8 : Int32) * (((Int32.ofNat k) - (Int32.ofNat al)) + 8)) &&& 63) : Int64)))) (gA S a k) : Int32).toInt8.toInt32), .int (Int32.ofNat (k % 64)), .ref 8]) (S' := S) ht rfl rfl ?_
      refine zv_bs (j := k % 64) (x := (zit (n ≤ k) (zit (k = n) 128 (zit (k < al - 8) 0 (Int64.toInt32 (bits >>> (Int32.toInt64 ((8 : Int32) * (((Int32.ofNat k) - (Int32.ofNat al)) + 8)) &&& 63) : Int64)))) (gA S a k) : Int32).toInt8.toInt32) ht rfl rfl rfl rfl (zi_natE (a := k % 64) rfl (by omega)) ⟨(Or.inl ⟨rfl, (zi_i2b _)⟩), zi_inE (a := k % 64) (n := 64) rfl (by omega) (by omega)⟩ ?_
      refine zv_c1 ht rfl rfl (zv_c1 ht rfl rfl ?_)
      refine zv_ei (x := Int32.ofNat (k % 64)) ht rfl rfl (zi_nz (a := 64) rfl (by omega) (by omega)) (zi_remE (a := k) (b := 64) rfl rfl (by omega) (by omega)) ?_
      refine zv_c1 ht rfl rfl ?_
      refine zv_br ht rfl rfl rfl (fun b7 => ?_) (fun b7 => ?_)
      · replace b7 : k % 64 = 63 := (zi_eqE (a := (k % 64)) (b := 63) rfl rfl (by omega) (by omega)).mp b7
        refine zv_c1 ht rfl rfl ?_
        refine zv_br ht rfl rfl rfl (fun _ => ?_) (fun h => absurd (by decide) h)
        refine zv_c1 ht rfl rfl ?_
        refine zv_cl ht rfl rfl rfl rfl (by omega) (Nat.le_of_ble_eq_true rfl) (x_turn0 (by omega) (S := sA S 8 (k % 64) ((zit (n ≤ k) (zit (k = n) 128 (zit (k < al - 8) 0 (Int64.toInt32 (bits >>> (Int32.toInt64 ((8 : Int32) * (((Int32.ofNat k) - (Int32.ofNat al)) + 8)) &&& 63) : Int64)))) (gA S a k) : Int32).toInt8.toInt32)) hF (hc.k (zTK_sA (as := [8]) (by decide)) (by decide) (by decide) (by decide)) (fun G kG eG => ?_))
        show zEv d 47 148 [.ref 1, .ref a, .int (Int32.ofNat n), .int 0, .int (Int32.ofNat al), .long bits, .retAddr 0, .int (Int32.ofNat k), .retAddr 0, .int (zit (n ≤ k) (zit (k = n) 128 (zit (k < al - 8) 0 (Int64.toInt32 (bits >>> (Int32.toInt64 ((8 : Int32) * (((Int32.ofNat k) - (Int32.ofNat al)) + 8)) &&& 63) : Int64)))) (gA S a k))] [] G post
        refine zv_iinc (L' := [.ref 1, .ref a, .int (Int32.ofNat n), .int 0, .int (Int32.ofNat al), .long bits, .retAddr 0, .int (Int32.ofNat (k + 1)), .retAddr 0, .int (zit (n ≤ k) (zit (k = n) 128 (zit (k < al - 8) 0 (Int64.toInt32 (bits >>> (Int32.toInt64 ((8 : Int32) * (((Int32.ofNat k) - (Int32.ofNat al)) + 8)) &&& 63) : Int64)))) (gA S a k))]) (i := 7) (x := Int32.ofNat (k + 1)) ht rfl rfl (zi_addE (a := k) (b := 1) rfl rfl) rfl ?_
        refine zv_c1 ht rfl rfl ?_
        exact zEv.wk (L := [.ref 1, .ref a, .int (Int32.ofNat n), .int (Int32.ofNat 0), .int (Int32.ofNat al), .long bits, .retAddr 0, .int (Int32.ofNat (k + 1)), .retAddr 0, .retAddr 0]) (L' := [.ref 1, .ref a, .int (Int32.ofNat n), .int 0, .int (Int32.ofNat al), .long bits, .retAddr 0, .int (Int32.ofNat (k + 1)), .retAddr 0, .int (zit (n ≤ k) (zit (k = n) 128 (zit (k < al - 8) 0 (Int64.toInt32 (bits >>> (Int32.toInt64 ((8 : Int32) * (((Int32.ofNat k) - (Int32.ofNat al)) + 8)) &&& 63) : Int64)))) (gA S a k))]) (And.intro (Or.inl rfl) (And.intro (Or.inl rfl) (And.intro (Or.inl rfl) (And.intro (Or.inl rfl) (And.intro (Or.inl rfl) (And.intro (Or.inl rfl) (And.intro (Or.inl rfl) (And.intro (Or.inl rfl) (And.intro (Or.inl rfl) (And.intro (Or.inr rfl) trivial)))))))))) (h2 b1 b7 G kG eG)
      · replace b7 : ¬ (k % 64 = 63) := fun h => b7 ((zi_eqE (a := (k % 64)) (b := 63) rfl rfl (by omega) (by omega)).mpr h)
        refine zv_c1 ht rfl rfl ?_
        refine zv_iinc (L' := [.ref 1, .ref a, .int (Int32.ofNat n), .int 0, .int (Int32.ofNat al), .long bits, .retAddr 0, .int (Int32.ofNat (k + 1)), .retAddr 0, .int (zit (n ≤ k) (zit (k = n) 128 (zit (k < al - 8) 0 (Int64.toInt32 (bits >>> (Int32.toInt64 ((8 : Int32) * (((Int32.ofNat k) - (Int32.ofNat al)) + 8)) &&& 63) : Int64)))) (gA S a k))]) (i := 7) (x := Int32.ofNat (k + 1)) ht rfl rfl (zi_addE (a := k) (b := 1) rfl rfl) rfl ?_
        refine zv_c1 ht rfl rfl ?_
        exact zEv.wk (L := [.ref 1, .ref a, .int (Int32.ofNat n), .int (Int32.ofNat 0), .int (Int32.ofNat al), .long bits, .retAddr 0, .int (Int32.ofNat (k + 1)), .retAddr 0, .retAddr 0]) (L' := [.ref 1, .ref a, .int (Int32.ofNat n), .int 0, .int (Int32.ofNat al), .long bits, .retAddr 0, .int (Int32.ofNat (k + 1)), .retAddr 0, .int (zit (n ≤ k) (zit (k = n) 128 (zit (k < al - 8) 0 (Int64.toInt32 (bits >>> (Int32.toInt64 ((8 : Int32) * (((Int32.ofNat k) - (Int32.ofNat al)) + 8)) &&& 63) : Int64)))) (gA S a k))]) (And.intro (Or.inl rfl) (And.intro (Or.inl rfl) (And.intro (Or.inl rfl) (And.intro (Or.inl rfl) (And.intro (Or.inl rfl) (And.intro (Or.inl rfl) (And.intro (Or.inl rfl) (And.intro (Or.inl rfl) (And.intro (Or.inl rfl) (And.intro (Or.inr rfl) trivial)))))))))) (h3 b1 b7)
    refine zv_br ht rfl rfl rfl (fun b2 => ?_) (fun b2 => ?_)
    · replace b2 : n ≤ k := (zi_leE (a := n) (b := k) rfl rfl (by omega) (by omega)).mp b2
      refine zv_c1 ht rfl rfl (zv_c1 ht rfl rfl ?_)
      refine zv_br ht rfl rfl rfl (fun b3 => ?_) (fun b3 => ?_)
      · replace b3 : ¬ (k = n) := fun h => b3 ((zi_eqE (a := k) (b := n) rfl rfl (by omega) (by omega)).mpr h)
        refine zv_c1 ht rfl rfl (zv_c1 ht rfl rfl (zv_c1 ht rfl rfl ?_))
        refine zv_e1 (x := Int32.ofNat (al - 8)) ht rfl rfl (zi_subE (a := al) (b := 8) rfl rfl (by omega)) ?_
        refine zv_br ht rfl rfl rfl (fun b4 => ?_) (fun b4 => ?_)
        · replace b4 : k < al - 8 := (zi_ltE (a := k) (b := (al - 8)) rfl rfl (by omega) (by omega)).mp b4
          refine zv_c1 ht rfl rfl ?_
          exact zEv.wk (L := [.ref 1, .ref a, .int (Int32.ofNat n), .int 0, .int (Int32.ofNat al), .long bits, .retAddr 0, .int (Int32.ofNat k), .retAddr 0, .retAddr 0]) (L' := [.ref 1, .ref a, .int (Int32.ofNat n), .int 0, .int (Int32.ofNat al), .long bits, .retAddr 0, .int (Int32.ofNat k), .int (((Int32.ofNat k) - (Int32.ofNat al)) + 8), .retAddr 0]) (And.intro (Or.inl rfl) (And.intro (Or.inl rfl) (And.intro (Or.inl rfl) (And.intro (Or.inl rfl) (And.intro (Or.inl rfl) (And.intro (Or.inl rfl) (And.intro (Or.inl rfl) (And.intro (Or.inl rfl) (And.intro (Or.inr rfl) (And.intro (Or.inl rfl) trivial)))))))))) (zv_sub (zz := zit (n ≤ k) (zit (k = n) 128 (zit (k < al - 8) 0 (Int64.toInt32 (bits >>> (Int32.toInt64 ((8 : Int32) * (((Int32.ofNat k) - (Int32.ofNat al)) + 8)) &&& 63) : Int64)))) (gA S a k)) (zy := 0) (p := fun zz => zEv d 47 105 [.ref 1, .ref a, .int (Int32.ofNat n), .int 0, .int (Int32.ofNat al), .long bits, .retAddr 0, .int (Int32.ofNat k), .retAddr 0, .retAddr 0] [.int zz] S post) (Eq.trans (zit_pos b2) (Eq.trans (zit_neg b3) (zit_pos b4))) J5)
        · replace b4 : ¬ (k < al - 8) := fun h => b4 ((zi_ltE (a := k) (b := (al - 8)) rfl rfl (by omega) (by omega)).mpr h)
          refine zv_c1 ht rfl rfl (zv_c1 ht rfl rfl (zv_c1 ht rfl rfl ?_))
          refine zv_c1 (st' := [.int ((8 : Int32) * (((Int32.ofNat k) - (Int32.ofNat al)) + 8)), .long bits]) (S' := S) ht rfl rfl ?_
          refine zv_c1 (st' := [.long (bits >>> (Int32.toInt64 ((8 : Int32) * (((Int32.ofNat k) - (Int32.ofNat al)) + 8)) &&& 63) : Int64)]) (S' := S) ht rfl rfl ?_
          refine zv_c1 (st' := [.int (Int64.toInt32 (bits >>> (Int32.toInt64 ((8 : Int32) * (((Int32.ofNat k) - (Int32.ofNat al)) + 8)) &&& 63) : Int64))]) (S' := S) ht rfl rfl ?_
          refine zv_c1 ht rfl rfl ?_
          exact zEv.wk (L := [.ref 1, .ref a, .int (Int32.ofNat n), .int 0, .int (Int32.ofNat al), .long bits, .retAddr 0, .int (Int32.ofNat k), .retAddr 0, .retAddr 0]) (L' := [.ref 1, .ref a, .int (Int32.ofNat n), .int 0, .int (Int32.ofNat al), .long bits, .retAddr 0, .int (Int32.ofNat k), .int (((Int32.ofNat k) - (Int32.ofNat al)) + 8), .retAddr 0]) (And.intro (Or.inl rfl) (And.intro (Or.inl rfl) (And.intro (Or.inl rfl) (And.intro (Or.inl rfl) (And.intro (Or.inl rfl) (And.intro (Or.inl rfl) (And.intro (Or.inl rfl) (And.intro (Or.inl rfl) (And.intro (Or.inr rfl) (And.intro (Or.inl rfl) trivial)))))))))) (zv_sub (zz := zit (n ≤ k) (zit (k = n) 128 (zit (k < al - 8) 0 (Int64.toInt32 (bits >>> (Int32.toInt64 ((8 : Int32) * (((Int32.ofNat k) - (Int32.ofNat al)) + 8)) &&& 63) : Int64)))) (gA S a k)) (zy := Int64.toInt32 (bits >>> (Int32.toInt64 ((8 : Int32) * (((Int32.ofNat k) - (Int32.ofNat al)) + 8)) &&& 63) : Int64)) (p := fun zz => zEv d 47 105 [.ref 1, .ref a, .int (Int32.ofNat n), .int 0, .int (Int32.ofNat al), .long bits, .retAddr 0, .int (Int32.ofNat k), .retAddr 0, .retAddr 0] [.int zz] S post) (Eq.trans (zit_pos b2) (Eq.trans (zit_neg b3) (zit_neg b4))) J5)
      · replace b3 : k = n := (zi_eqE (a := k) (b := n) rfl rfl (by omega) (by omega)).mp (Classical.not_not.mp b3)
        refine zv_c1 ht rfl rfl (zv_c1 ht rfl rfl ?_)
        exact zEv.wk (L := [.ref 1, .ref a, .int (Int32.ofNat n), .int 0, .int (Int32.ofNat al), .long bits, .retAddr 0, .int (Int32.ofNat k), .retAddr 0, .retAddr 0]) (L' := [.ref 1, .ref a, .int (Int32.ofNat n), .int 0, .int (Int32.ofNat al), .long bits, .retAddr 0, .int (Int32.ofNat k), .int (((Int32.ofNat k) - (Int32.ofNat al)) + 8), .retAddr 0]) (And.intro (Or.inl rfl) (And.intro (Or.inl rfl) (And.intro (Or.inl rfl) (And.intro (Or.inl rfl) (And.intro (Or.inl rfl) (And.intro (Or.inl rfl) (And.intro (Or.inl rfl) (And.intro (Or.inl rfl) (And.intro (Or.inr rfl) (And.intro (Or.inl rfl) trivial)))))))))) (zv_sub (zz := zit (n ≤ k) (zit (k = n) 128 (zit (k < al - 8) 0 (Int64.toInt32 (bits >>> (Int32.toInt64 ((8 : Int32) * (((Int32.ofNat k) - (Int32.ofNat al)) + 8)) &&& 63) : Int64)))) (gA S a k)) (zy := 128) (p := fun zz => zEv d 47 105 [.ref 1, .ref a, .int (Int32.ofNat n), .int 0, .int (Int32.ofNat al), .long bits, .retAddr 0, .int (Int32.ofNat k), .retAddr 0, .retAddr 0] [.int zz] S post) (Eq.trans (zit_pos b2) (zit_pos b3)) J5)
    · replace b2 : ¬ (n ≤ k) := fun h => b2 ((zi_leE (a := n) (b := k) rfl rfl (by omega) (by omega)).mpr h)
      refine zv_c1 ht rfl rfl (zv_c1 ht rfl rfl ?_)
      refine zv_baE (j := k) (x := gA S a k) ht rfl rfl rfl rfl (zi_natE (a := k) rfl (by omega)) ⟨(Or.inl hat), zi_inL (a := k) (m := zlen S a) rfl rfl (by omega) (by omega)⟩ rfl ?_
      refine zv_c1 ht rfl rfl ?_
      exact zEv.wk (L := [.ref 1, .ref a, .int (Int32.ofNat n), .int 0, .int (Int32.ofNat al), .long bits, .retAddr 0, .int (Int32.ofNat k), .retAddr 0, .retAddr 0]) (L' := [.ref 1, .ref a, .int (Int32.ofNat n), .int 0, .int (Int32.ofNat al), .long bits, .retAddr 0, .int (Int32.ofNat k), .int (((Int32.ofNat k) - (Int32.ofNat al)) + 8), .retAddr 0]) (And.intro (Or.inl rfl) (And.intro (Or.inl rfl) (And.intro (Or.inl rfl) (And.intro (Or.inl rfl) (And.intro (Or.inl rfl) (And.intro (Or.inl rfl) (And.intro (Or.inl rfl) (And.intro (Or.inl rfl) (And.intro (Or.inr rfl) (And.intro (Or.inl rfl) trivial)))))))))) (zv_sub (zz := zit (n ≤ k) (zit (k = n) 128 (zit (k < al - 8) 0 (Int64.toInt32 (bits >>> (Int32.toInt64 ((8 : Int32) * (((Int32.ofNat k) - (Int32.ofNat al)) + 8)) &&& 63) : Int64)))) (gA S a k)) (zy := gA S a k) (p := fun zz => zEv d 47 105 [.ref 1, .ref a, .int (Int32.ofNat n), .int 0, .int (Int32.ofNat al), .long bits, .retAddr 0, .int (Int32.ofNat k), .retAddr 0, .retAddr 0] [.int zz] S post) (zit_neg b2) J5)

section X1b
variable {d : Nat} {post : Outcome × zS → Prop}
/-- a byte that is taken -/
theorem tk_val (hi : Bool) {n k : Nat} {f : Nat → Int32} {x y : Int32} (hn : n ≤ 128) (hk : k < hAll n) (hx : k < n → x &&& 255 = f k) (hy : hAll n ≤ k + 8 → y &&& 255 = hLb n (bif hi then hAll n - 1 - k else k + 8 - hAll n)) :
    (zit (n ≤ k) (zit (k = n) 128 (zit (k < hAll n - 8) 0 y)) x : Int32).toInt8.toInt32 &&& 255 = hPad hi n f k := by
  have hA : hAll n = (n + 72) / 64 * 64 := rfl
  rw [show (zit (n ≤ k) (zit (k = n) 128 (zit (k < hAll n - 8) 0 y)) x : Int32).toInt8.toInt32 &&& 255 = (zit (n ≤ k) (zit (k = n) 128 (zit (k < hAll n - 8) 0 y)) x) &&& 255 from sg_255 _]
  unfold hPad hPd
  by_cases h1 : k < n
  · rw [zit_neg (by omega), if_pos h1, hx h1]
  · rw [zit_pos (by omega), if_neg h1]
    by_cases h2 : k = n
    · rw [zit_pos h2, if_pos h2]; rfl
    · rw [zit_neg h2, if_neg h2]
      by_cases h3 : hAll n ≤ k + 8
      · rw [zit_neg (by omega), if_pos h3, hy h3]
      · rw [zit_pos (by omega), if_neg h3]; rfl
/-- the step of a loop that takes bytes -/
theorem tk_inv {blk : (Nat → Int32) → (Nat → Int32) → Nat → Int32} {c : Nat} (hb : ∀ B B' s s', (∀ j, j < 64 → B j = B' j) → (∀ j, j < c → s j = s' j) → ∀ j, j < c → blk B s j = blk B' s' j) {m : Nat → Int32} {s0 : Nat → Int32} {S S' : zS} {k : Nat} {v : Int32}
    (k1 : zTK [] [4, 5, 6, 7, 8] S S') (b1 : ∀ j, j < k % 64 → gA S' 8 j &&& 255 = m (64 * (k / 64) + j)) (s1 : ∀ j, j < c → gA S' 4 j = hIt blk m s0 (k / 64) j) (hv : v &&& 255 = m k) :
    (¬ k % 64 = 63 → zTK [] [4, 5, 6, 7, 8] S (sA S' 8 (k % 64) v) ∧ (∀ j, j < (k + 1) % 64 → gA (sA S' 8 (k % 64) v) 8 j &&& 255 = m (64 * ((k + 1) / 64) + j)) ∧ ∀ j, j < c → gA (sA S' 8 (k % 64) v) 4 j = hIt blk m s0 ((k + 1) / 64) j) ∧
    (k % 64 = 63 → ∀ G, zTK [] [4, 5, 6, 7] (sA S' 8 (k % 64) v) G → (∀ j, j < c → gA G 4 j = blk (fun j => gA (sA S' 8 (k % 64) v) 8 j &&& 255) (gA (sA S' 8 (k % 64) v) 4) j) → zTK [] [4, 5, 6, 7, 8] S G ∧ (∀ j, j < (k + 1) % 64 → gA G 8 j &&& 255 = m (64 * ((k + 1) / 64) + j)) ∧ ∀ j, j < c → gA G 4 j = hIt blk m s0 ((k + 1) / 64) j) := by
  have hn : ∀ j, j ≤ k % 64 → gA (sA S' 8 (k % 64) v) 8 j &&& 255 = m (64 * (k / 64) + j) := by
    intro j hj
    by_cases e : j = k % 64
    · subst e
      rw [gA_sA_at, hv]
      congr 1
      omega
    · rw [gA_sA_nj e]
      exact b1 j (by omega)
  have k2 : zTK [] [4, 5, 6, 7, 8] S (sA S' 8 (k % 64) v) := k1.tr (zTK_sA (by decide))
  constructor
  · intro h
    refine ⟨k2, fun j hj => ?_, fun j hj => ?_⟩
    · rw [hn j (by omega), show (k + 1) / 64 = k / 64 from by omega]
    · rw [show (k + 1) / 64 = k / 64 from by omega]
      exact s1 j hj
  · intro h G kG eG
    refine ⟨k2.tr (kG.w (by decide) (by decide)), fun j hj => by omega, fun j hj => ?_⟩
    rw [eG j hj, show (k + 1) / 64 = k / 64 + 1 from by omega]
    exact hb _ _ _ _ (fun j hj => hn j (by omega)) (fun j hj => s1 j hj) j hj
theorem x_take1 {a n : Nat} {f : Nat → Int32} {S : zS} (hF : zFin true S) (hd : 2 ≤ d) (hc : xC S) (hn : n ≤ 128) (hat : ztyp S a = 101) (hl : n ≤ zlen S a) (ha : a ∉ [4, 5, 6, 7, 8]) (hf : ∀ j, j < n → gA S a j &&& 255 = f j)
    (h : ∀ S', zTK [] [4, 5, 6, 7, 8] S S' → (∀ j, j < 8 → gA S' 4 j = hIt hSblk (hPad true n f) (gA S 4) (hAll n / 64) j) → post (.returned none, S')) : zCall d 47 [.ref 1, .ref a, .int (Int32.ofNat n), .int 1] S post := by
  have hA : hAll n = (n + 72) / 64 * 64 := rfl
  refine tk01 hF a n hn ?_
  have hty : ∀ S', zTK [] [4, 5, 6, 7, 8] S S' → ztyp S' a = 101 ∧ n ≤ zlen S' a := fun S' k => by
    have e : gT S' = gT S := by show S'.2.2.2.2.2.1 = S.2.2.2.2.2.1; rw [k.1.2]
    unfold ztyp zlen at *
    rw [e]
    exact ⟨hat, hl⟩
  refine zLoop (L := fun k => [.ref 1, .ref a, .int (Int32.ofNat n), .int (Int32.ofNat 1), .int (Int32.ofNat (hAll n)), .long ((8 : Int64) * (Int32.toInt64 (Int32.ofNat n))), .retAddr 0, .int (Int32.ofNat k), .retAddr 0, .retAddr 0]) (hAll n) (fun k S' => zTK [] [4, 5, 6, 7, 8] S S' ∧ (∀ j, j < k % 64 → gA S' 8 j &&& 255 = hPad true n f (64 * (k / 64) + j)) ∧ ∀ j, j < 8 → gA S' 4 j = hIt hSblk (hPad true n f) (gA S 4) (k / 64) j) ?_ ?_ 0 S (by omega) ⟨zTK.rf, fun j hj => by omega, fun j _ => rfl⟩
  · rintro k S' hk ⟨k1, b1, s1⟩ ih
    have st := tk_inv (k := k) (fun _ _ _ _ h2 h3 => hSblk_congr h2 h3) k1 b1 s1 (tk_val true (k := k) (x := gA S' a k) (y := Int64.toInt32 (((8 : Int64) * (Int32.toInt64 (Int32.ofNat n))) >>> (Int32.toInt64 (Int32.ofNat (8 * ((hAll n - 1) - k))) &&& 63) : Int64)) hn hk (fun h => by rw [k1.A ha]; exact hf k h) (fun h => hLb_x hn (by omega)))
    exact tk11 (S := S') (k1.fin hF) hd a n (hAll n) k _ hn (hty S' k1).2 (by omega) (by omega) (by omega) (hc.k k1 (by decide) (by decide) (by decide)) (hty S' k1).1 (fun b => by omega) (fun _ b G kG eG => ih G (st.2 b G kG eG)) (fun _ b => ih _ (st.1 b))
  · rintro S' ⟨k1, b1, s1⟩
    exact tk11 (S := S') (k1.fin hF) hd a n (hAll n) (hAll n) _ hn (hty S' k1).2 (by omega) (by omega) (by omega) (hc.k k1 (by decide) (by decide) (by decide)) (hty S' k1).1 (fun _ => h S' k1 s1) (fun b => absurd (by omega) b) (fun b => absurd (by omega) b)
theorem x_take0 {a n : Nat} {f : Nat → Int32} {S : zS} (hF : zFin true S) (hd : 7 ≤ d) (hc : xC S) (hn : n ≤ 128) (hat : ztyp S a = 101) (hl : n ≤ zlen S a) (ha : a ∉ [4, 5, 6, 7, 8]) (hf : ∀ j, j < n → gA S a j &&& 255 = f j)
    (h : ∀ S', zTK [] [4, 5, 6, 7, 8] S S' → (∀ j, j < 5 → gA S' 4 j = hIt rBlk (hPad false n f) (gA S 4) (hAll n / 64) j) → post (.returned none, S')) : zCall d 47 [.ref 1, .ref a, .int (Int32.ofNat n), .int 0] S post := by
  have hA : hAll n = (n + 72) / 64 * 64 := rfl
  refine tk00 hF a n hn ?_
  have hty : ∀ S', zTK [] [4, 5, 6, 7, 8] S S' → ztyp S' a = 101 ∧ n ≤ zlen S' a := fun S' k => by
    have e : gT S' = gT S := by show S'.2.2.2.2.2.1 = S.2.2.2.2.2.1; rw [k.1.2]
    unfold ztyp zlen at *
    rw [e]
    exact ⟨hat, hl⟩
  refine zLoop (L := fun k => [.ref 1, .ref a, .int (Int32.ofNat n), .int (Int32.ofNat 0), .int (Int32.ofNat (hAll n)), .long ((8 : Int64) * (Int32.toInt64 (Int32.ofNat n))), .retAddr 0, .int (Int32.ofNat k), .retAddr 0, .retAddr 0]) (hAll n) (fun k S' => zTK [] [4, 5, 6, 7, 8] S S' ∧ (∀ j, j < k % 64 → gA S' 8 j &&& 255 = hPad false n f (64 * (k / 64) + j)) ∧ ∀ j, j < 5 → gA S' 4 j = hIt rBlk (hPad false n f) (gA S 4) (k / 64) j) ?_ ?_ 0 S (by omega) ⟨zTK.rf, fun j hj => by omega, fun j _ => rfl⟩
  · rintro k S' hk ⟨k1, b1, s1⟩ ih
    have st := tk_inv (k := k) (fun _ _ _ _ h2 h3 => rBlk_congr h2 h3) k1 b1 s1 (tk_val false (k := k) (x := gA S' a k) (y := Int64.toInt32 (((8 : Int64) * (Int32.toInt64 (Int32.ofNat n))) >>> (Int32.toInt64 ((8 : Int32) * (((Int32.ofNat k) - (Int32.ofNat (hAll n))) + 8)) &&& 63) : Int64)) hn hk (fun h => by rw [k1.A ha]; exact hf k h) (fun h => by
      have e : (8 : Int32) * (((Int32.ofNat k) - (Int32.ofNat (hAll n))) + 8) = Int32.ofNat (8 * (k + 8 - hAll n)) := by
        refine zi_mulE rfl ?_
        have e2 : Int32.ofNat k + 8 = Int32.ofNat (k + 8 - hAll n) + Int32.ofNat (hAll n) := by
          rw [zi_add]
          refine (zi_addE (a := k) (b := 8) rfl rfl).trans ?_
          congr 1
          omega
        rw [Int32.sub_eq_add_neg, Int32.add_assoc, Int32.add_comm (-Int32.ofNat (hAll n)) 8, ← Int32.add_assoc, e2, ← Int32.sub_eq_add_neg, Int32.add_sub_cancel]
      rw [e]
      exact hLb_x hn (by omega)))
    exact tk10 (S := S') (k1.fin hF) hd a n (hAll n) k _ hn (hty S' k1).2 (by omega) (by omega) (by omega) (hc.k k1 (by decide) (by decide) (by decide)) (hty S' k1).1 (fun b => by omega) (fun _ b G kG eG => ih G (st.2 b G kG eG)) (fun _ b => ih _ (st.1 b))
  · rintro S' ⟨k1, b1, s1⟩
    exact tk10 (S := S') (k1.fin hF) hd a n (hAll n) (hAll n) _ hn (hty S' k1).2 (by omega) (by omega) (by omega) (hc.k k1 (by decide) (by decide) (by decide)) (hty S' k1).1 (fun _ => h S' k1 s1) (fun b => absurd (by omega) b) (fun b => absurd (by omega) b)
end X1b
theorem tk_hf {a n : Nat} {f : Nat → Int32} {S S' : zS} (ha : a ∉ [4, 5, 6, 7, 8]) (hf : ∀ j, j < n → gA S a j &&& 255 = f j) (k : zTK [] [4] S S') : ∀ j, j < n → gA S' a j &&& 255 = f j := fun j hj => by
  rw [k.A (fun x => ha (by rw [List.mem_singleton.mp x]; decide))]
  exact hf j hj
theorem xs0 {d : Nat} {S : zS} (hF : zFin true S) (a b n : Nat) {post : Outcome × zS → Prop} (h1 : zEv d 46 3 [.ref 1, .ref a, .int (Int32.ofNat n), .ref b, .int (Int32.ofNat 0)] [] S post) : zCall d 46 [.ref 1, .ref a, .int (Int32.ofNat n), .ref b] S post := by
  have ht : ztab 46 = ztb46 := rfl
  show zEv d 46 0 [.ref 1, .ref a, .int (Int32.ofNat n), .ref b, .retAddr 0] [] S post
  refine zv_c1 ht rfl rfl ?_
  refine zv_c2 (L' := [.ref 1, .ref a, .int (Int32.ofNat n), .ref b, .int 0]) ht rfl rfl ?_
  exact h1

theorem xs1 {d : Nat} {S : zS} (hF : zFin true S) (a b n k : Nat) (hk : k < 8) {post : Outcome × zS → Prop} (h1 : zEv d 46 3 [.ref 1, .ref a, .int (Int32.ofNat n), .ref b, .int (Int32.ofNat (k + 1))] [] (sA S 4 k (gA S 3 k)) post) : zEv d 46 3 [.ref 1, .ref a, .int (Int32.ofNat n), .ref b, .int (Int32.ofNat k)] [] S post := by
  have ht : ztab 46 = ztb46 := rfl
  refine zv_c1 ht rfl rfl (zv_c1 ht rfl rfl ?_)
  refine zv_br ht rfl rfl rfl (fun b1 => (show False from by have hq := b1; have hz : 8 ≤ k := (zi_leE (a := 8) (b := k) rfl rfl (by omega) (by omega)).mp hq; omega).elim) (fun b1 => ?_)
  refine zv_c1 ht rfl rfl ?_
  refine zv_gl (st' := [.ref 4]) ht rfl hF rfl rfl rfl ?_
  refine zv_c1 ht rfl rfl (zv_c1 ht rfl rfl ?_)
  refine zv_gl (st' := [.ref 3, .int (Int32.ofNat k), .ref 4]) ht rfl hF rfl rfl rfl ?_
  refine zv_c1 ht rfl rfl ?_
  refine zv_iaE (j := k) (x := gA S 3 k) ht rfl rfl rfl rfl (zi_natE (a := k) rfl (by omega)) ⟨(Or.inl rfl), zi_inE (a := k) (n := 8) rfl (by omega) (by omega)⟩ rfl ?_
  refine zv_is (j := k) (x := gA S 3 k) ht rfl rfl rfl rfl (zi_natE (a := k) rfl (by omega)) ⟨rfl, zi_inE (a := k) (n := 8) rfl (by omega) (by omega)⟩ ?_
  refine zv_iinc (L' := [.ref 1, .ref a, .int (Int32.ofNat n), .ref b, .int (Int32.ofNat (k + 1))]) (i := 4) (x := Int32.ofNat (k + 1)) ht rfl rfl (zi_addE (a := k) (b := 1) rfl rfl) rfl ?_
  refine zv_c1 ht rfl rfl ?_
  exact h1

theorem xs2 {d : Nat} {S : zS} (hF : zFin true S) (hd : 3 ≤ d) (a b n : Nat) {f : Nat → Int32} (hn : n ≤ 128) (hl : n ≤ zlen S a) (hc : xC S) (hat : ztyp S a = 101) (ha0 : a ∉ [4, 5, 6, 7, 8]) (hf : ∀ j, j < n → gA S a j &&& 255 = f j) {post : Outcome × zS → Prop} (h1 : ∀ G : zS, (zTK [] [4, 5, 6, 7, 8] S G) → (∀ j, j < 8 → gA G 4 j = hIt hSblk (hPad true n f) (gA S 4) (hAll n / 64) j) → zEv d 46 40 [.ref 1, .retAddr 0, .retAddr 0, .ref b, .int (Int32.ofNat 0)] [] G post) : zEv d 46 3 [.ref 1, .ref a, .int (Int32.ofNat n), .ref b, .int 8] [] S post := by
  have ht : ztab 46 = ztb46 := rfl
  refine zv_c1 ht rfl rfl (zv_c1 ht rfl rfl ?_)
  refine zv_br ht rfl rfl rfl (fun _ => ?_) (fun h => absurd (by decide) h)
  refine zv_c1 ht rfl rfl (zv_c1 ht rfl rfl (zv_c1 ht rfl rfl (zv_c1 ht rfl rfl ?_)))
  refine zv_cl ht rfl rfl rfl rfl (by omega) (Nat.le_of_ble_eq_true rfl) (x_take1 (f := f) (S := S) hF (by omega) (hc.k (zTK.rf (fs := []) (as := [4])) (by decide) (by decide) (by decide)) hn hat hl ha0 (tk_hf ha0 hf (zTK.rf (fs := []) (as := [4]))) (fun G kG eG => ?_))
  show zEv d 46 37 [.ref 1, .ref a, .int (Int32.ofNat n), .ref b, .int 8] [] G post
  refine zv_c1 ht rfl rfl ?_
  refine zv_c2 (L' := [.ref 1, .ref a, .int (Int32.ofNat n), .ref b, .int 0]) ht rfl rfl ?_
  exact zEv.wk (L := [.ref 1, .retAddr 0, .retAddr 0, .ref b, .int (Int32.ofNat 0)]) (L' := [.ref 1, .ref a, .int (Int32.ofNat n), .ref b, .int 0]) (And.intro (Or.inl rfl) (And.intro (Or.inr rfl) (And.intro (Or.inr rfl) (And.intro (Or.inl rfl) (And.intro (Or.inl rfl) trivial))))) (h1 G kG eG)

theorem xs3 {d : Nat} {S : zS} (hF : zFin true S) (b k : Nat) (hk : k ≤ 32) (hbt : ztyp S b = 101) (hbl : 32 ≤ zlen S b) {post : Outcome × zS → Prop} (h1 : (32 ≤ k) → post (.returned none, S)) (h2 : (¬ (32 ≤ k)) → zEv d 46 40 [.ref 1, .retAddr 0, .retAddr 0, .ref b, .int (Int32.ofNat (k + 1))] [] (sA S b k ((((gA S 4 (k / 4)) >>> ((Int32.ofNat (24 - (8 * (k % 4)))) &&& 31) : Int32) : Int32).toInt8.toInt32)) post) : zEv d 46 40 [.ref 1, .retAddr 0, .retAddr 0, .ref b, .int (Int32.ofNat k)] [] S post := by
  have ht : ztab 46 = ztb46 := rfl
  refine zv_c1 ht rfl rfl (zv_c1 ht rfl rfl ?_)
  refine zv_br ht rfl rfl rfl (fun b1 => ?_) (fun b1 => ?_)
  · replace b1 : 32 ≤ k := (zi_leE (a := 32) (b := k) rfl rfl (by omega) (by omega)).mp b1
    exact zv_rt ht rfl rfl rfl rfl (h1 b1)
  · replace b1 : ¬ (32 ≤ k) := fun h => b1 ((zi_leE (a := 32) (b := k) rfl rfl (by omega) (by omega)).mpr h)
    refine zv_c1 ht rfl rfl (zv_c1 ht rfl rfl (zv_c1 ht rfl rfl ?_))
    refine zv_gl (st' := [.ref 4, .int (Int32.ofNat k), .ref b]) ht rfl hF rfl rfl rfl ?_
    refine zv_c1 ht rfl rfl (zv_c1 ht rfl rfl ?_)
    refine zv_ei (x := Int32.ofNat (k / 4)) ht rfl rfl (zi_nz (a := 4) rfl (by omega) (by omega)) (zi_divE (a := k) (b := 4) rfl rfl (by omega) (by omega)) ?_
    refine zv_iaE (j := k / 4) (x := gA S 4 (k / 4)) ht rfl rfl rfl rfl (zi_natE (a := k / 4) rfl (by omega)) ⟨(Or.inl rfl), zi_inE (a := k / 4) (n := 8) rfl (by omega) (by omega)⟩ rfl ?_
    refine zv_c1 ht rfl rfl (zv_c1 ht rfl rfl (zv_c1 ht rfl rfl (zv_c1 ht rfl rfl ?_)))
    refine zv_ei (x := Int32.ofNat (k % 4)) ht rfl rfl (zi_nz (a := 4) rfl (by omega) (by omega)) (zi_remE (a := k) (b := 4) rfl rfl (by omega) (by omega)) ?_
    refine zv_e1 (x := Int32.ofNat (8 * (k % 4))) ht rfl rfl (zi_mulE (a := 8) (b := k % 4) rfl rfl) ?_
    refine zv_e1 (x := Int32.ofNat (24 - (8 * (k % 4)))) ht rfl rfl (zi_subE (a := 24) (b := 8 * (k % 4)) rfl rfl (by omega)) ?_
    refine zv_c1 (st' := [.int ((gA S 4 (k / 4)) >>> ((Int32.ofNat (24 - (8 * (k % 4)))) &&& 31) : Int32), .int (Int32.ofNat k), .ref b]) (S' := S) ht rfl rfl ?_
    refine zv_c1 (st' := [.int ((((gA S 4 (k / 4)) >>> ((Int32.ofNat (24 - (8 * (k % 4)))) &&& 31) : Int32) : Int32).toInt8.toInt32), .int (Int32.ofNat k), .ref b]) (S' := S) ht rfl rfl ?_
    refine zv_bs (j := k) (x := (((gA S 4 (k / 4)) >>> ((Int32.ofNat (24 - (8 * (k % 4)))) &&& 31) : Int32) : Int32).toInt8.toInt32) ht rfl rfl rfl rfl (zi_natE (a := k) rfl (by omega)) ⟨(Or.inl ⟨hbt, (zi_i2b _)⟩), zi_inL (a := k) (m := zlen S b) rfl rfl (by omega) (by omega)⟩ ?_
    refine zv_iinc (L' := [.ref 1, .retAddr 0, .retAddr 0, .ref b, .int (Int32.ofNat (k + 1))]) (i := 4) (x := Int32.ofNat (k + 1)) ht rfl rfl (zi_addE (a := k) (b := 1) rfl rfl) rfl ?_
    refine zv_c1 ht rfl rfl ?_
    exact (h2 b1)

theorem xr0 {d : Nat} {S : zS} (hF : zFin true S) (hd : 8 ≤ d) (a b n : Nat) {f : Nat → Int32} (hn : n ≤ 128) (hl : n ≤ zlen S a) (hc : xC S) (hat : ztyp S a = 101) (ha0 : a ∉ [4, 5, 6, 7, 8]) (hf : ∀ j, j < n → gA S a j &&& 255 = f j) {post : Outcome × zS → Prop} (h1 : ∀ G : zS, (zTK [] [4, 5, 6, 7, 8] (sA (sA (sA (sA (sA S 4 0 1732584193) 4 1 (-271733879)) 4 2 (-1732584194)) 4 3 271733878) 4 4 (-1009589776)) G) → (∀ j, j < 5 → gA G 4 j = hIt rBlk (hPad false n f) (gA (sA (sA (sA (sA (sA S 4 0 1732584193) 4 1 (-271733879)) 4 2 (-1732584194)) 4 3 271733878) 4 4 (-1009589776)) 4) (hAll n / 64) j) → zEv d 57 50 [.ref 1, .retAddr 0, .retAddr 0, .ref b, .int (Int32.ofNat 0)] [] G post) : zCall d 57 [.ref 1, .ref a, .int (Int32.ofNat n), .ref b] S post := by
  have ht : ztab 57 = ztb57 := rfl
  show zEv d 57 0 [.ref 1, .ref a, .int (Int32.ofNat n), .ref b, .retAddr 0] [] S post
  refine zv_c1 ht rfl rfl ?_
  refine zv_gl (st' := [.ref 4]) ht rfl hF rfl rfl rfl ?_
  refine zv_c1 ht rfl rfl (zv_c1 ht rfl rfl ?_)
  refine zv_is (j := 0) (x := 1732584193) ht rfl rfl rfl rfl (zi_nat (k := 0) (by decide)) ⟨rfl, zi_in (k := 0) (n := 8) (by decide) (by decide)⟩ ?_
  refine zv_c1 ht rfl rfl ?_
  refine zv_gl (st' := [.ref 4]) ht rfl hF rfl rfl rfl ?_
  refine zv_c1 ht rfl rfl (zv_c1 ht rfl rfl ?_)
  refine zv_is (j := 1) (x := (-271733879)) ht rfl rfl rfl rfl (zi_nat (k := 1) (by decide)) ⟨rfl, zi_in (k := 1) (n := 8) (by decide) (by decide)⟩ ?_
  refine zv_c1 ht rfl rfl ?_
  refine zv_gl (st' := [.ref 4]) ht rfl hF rfl rfl rfl ?_
  refine zv_c1 ht rfl rfl (zv_c1 ht rfl rfl ?_)
  refine zv_is (j := 2) (x := (-1732584194)) ht rfl rfl rfl rfl (zi_nat (k := 2) (by decide)) ⟨rfl, zi_in (k := 2) (n := 8) (by decide) (by decide)⟩ ?_
  refine zv_c1 ht rfl rfl ?_
  refine zv_gl (st' := [.ref 4]) ht rfl hF rfl rfl rfl ?_
  refine zv_c1 ht rfl rfl (zv_c1 ht rfl rfl ?_)
  refine zv_is (j := 3) (x := 271733878) ht rfl rfl rfl rfl (zi_nat (k := 3) (by decide)) ⟨rfl, zi_in (k := 3) (n := 8) (by decide) (by decide)⟩ ?_
  refine zv_c1 ht rfl rfl ?_
  refine zv_gl (st' := [.ref 4]) ht rfl hF rfl rfl rfl ?_
  refine zv_c1 ht rfl rfl (zv_c1 ht rfl rfl ?_)
  refine zv_is (j := 4) (x := (-1009589776)) ht rfl rfl rfl rfl (zi_nat (k := 4) (by decide)) ⟨rfl, zi_in (k := 4) (n := 8) (by decide) (by decide)⟩ ?_
  refine zv_c1 ht rfl rfl (zv_c1 ht rfl rfl (zv_c1 ht rfl rfl (zv_c1 ht rfl rfl ?_)))
  refine zv_cl ht rfl rfl rfl rfl (by omega) (Nat.le_of_ble_eq_true rfl) (x_take0 (f := f) (S := sA (sA (sA (sA (sA S 4 0 1732584193) 4 1 (-271733879)) 4 2 (-1732584194)) 4 3 271733878) 4 4 (-1009589776)) hF (by omega) (hc.k (((((zTK_sA (as := [4]) (by decide)).tr (zTK_sA (by decide))).tr (zTK_sA (by decide))).tr (zTK_sA (by decide))).tr (zTK_sA (by decide))) (by decide) (by decide) (by decide)) hn hat hl ha0 (tk_hf ha0 hf (((((zTK_sA (as := [4]) (by decide)).tr (zTK_sA (by decide))).tr (zTK_sA (by decide))).tr (zTK_sA (by decide))).tr (zTK_sA (by decide)))) (fun G kG eG => ?_))
  show zEv d 57 47 [.ref 1, .ref a, .int (Int32.ofNat n), .ref b, .retAddr 0] [] G post
  refine zv_c1 ht rfl rfl ?_
  refine zv_c2 (L' := [.ref 1, .ref a, .int (Int32.ofNat n), .ref b, .int 0]) ht rfl rfl ?_
  exact zEv.wk (L := [.ref 1, .retAddr 0, .retAddr 0, .ref b, .int (Int32.ofNat 0)]) (L' := [.ref 1, .ref a, .int (Int32.ofNat n), .ref b, .int 0]) (And.intro (Or.inl rfl) (And.intro (Or.inr rfl) (And.intro (Or.inr rfl) (And.intro (Or.inl rfl) (And.intro (Or.inl rfl) trivial))))) (h1 G kG eG)

theorem xr1 {d : Nat} {S : zS} (hF : zFin true S) (b k : Nat) (hk : k ≤ 20) (hbt : ztyp S b = 101) (hbl : 20 ≤ zlen S b) {post : Outcome × zS → Prop} (h1 : (20 ≤ k) → post (.returned none, S)) (h2 : (¬ (20 ≤ k)) → zEv d 57 50 [.ref 1, .retAddr 0, .retAddr 0, .ref b, .int (Int32.ofNat (k + 1))] [] (sA S b k ((((gA S 4 (k / 4)) >>> ((Int32.ofNat (8 * (k % 4))) &&& 31) : Int32) : Int32).toInt8.toInt32)) post) : zEv d 57 50 [.ref 1, .retAddr 0, .retAddr 0, .ref b, .int (Int32.ofNat k)] [] S post := by
  have ht : ztab 57 = ztb57 := rfl
  refine zv_c1 ht rfl rfl (zv_c1 ht rfl rfl ?_)
  refine zv_br ht rfl rfl rfl (fun b1 => ?_) (fun b1 => ?_)
  · replace b1 : 20 ≤ k := (zi_leE (a := 20) (b := k) rfl rfl (by omega) (by omega)).mp b1
    exact zv_rt ht rfl rfl rfl rfl (h1 b1)
  · replace b1 : ¬ (20 ≤ k) := fun h => b1 ((zi_leE (a := 20) (b := k) rfl rfl (by omega) (by omega)).mpr h)
    refine zv_c1 ht rfl rfl (zv_c1 ht rfl rfl (zv_c1 ht rfl rfl ?_))
    refine zv_gl (st' := [.ref 4, .int (Int32.ofNat k), .ref b]) ht rfl hF rfl rfl rfl ?_
    refine zv_c1 ht rfl rfl (zv_c1 ht rfl rfl ?_)
    refine zv_ei (x := Int32.ofNat (k / 4)) ht rfl rfl (zi_nz (a := 4) rfl (by omega) (by omega)) (zi_divE (a := k) (b := 4) rfl rfl (by omega) (by omega)) ?_
    refine zv_iaE (j := k / 4) (x := gA S 4 (k / 4)) ht rfl rfl rfl rfl (zi_natE (a := k / 4) rfl (by omega)) ⟨(Or.inl rfl), zi_inE (a := k / 4) (n := 8) rfl (by omega) (by omega)⟩ rfl ?_
    refine zv_c1 ht rfl rfl (zv_c1 ht rfl rfl (zv_c1 ht rfl rfl ?_))
    refine zv_ei (x := Int32.ofNat (k % 4)) ht rfl rfl (zi_nz (a := 4) rfl (by omega) (by omega)) (zi_remE (a := k) (b := 4) rfl rfl (by omega) (by omega)) ?_
    refine zv_e1 (x := Int32.ofNat (8 * (k % 4))) ht rfl rfl (zi_mulE (a := 8) (b := k % 4) rfl rfl) ?_
    refine zv_c1 (st' := [.int ((gA S 4 (k / 4)) >>> ((Int32.ofNat (8 * (k % 4))) &&& 31) : Int32), .int (Int32.ofNat k), .ref b]) (S' := S) ht rfl rfl ?_
    refine zv_c1 (st' := [.int ((((gA S 4 (k / 4)) >>> ((Int32.ofNat (8 * (k % 4))) &&& 31) : Int32) : Int32).toInt8.toInt32), .int (Int32.ofNat k), .ref b]) (S' := S) ht rfl rfl ?_
    refine zv_bs (j := k) (x := (((gA S 4 (k / 4)) >>> ((Int32.ofNat (8 * (k % 4))) &&& 31) : Int32) : Int32).toInt8.toInt32) ht rfl rfl rfl rfl (zi_natE (a := k) rfl (by omega)) ⟨(Or.inl ⟨hbt, (zi_i2b _)⟩), zi_inL (a := k) (m := zlen S b) rfl rfl (by omega) (by omega)⟩ ?_
    refine zv_iinc (L' := [.ref 1, .retAddr 0, .retAddr 0, .ref b, .int (Int32.ofNat (k + 1))]) (i := 4) (x := Int32.ofNat (k + 1)) ht rfl rfl (zi_addE (a := k) (b := 1) rfl rfl) rfl ?_
    refine zv_c1 ht rfl rfl ?_
    exact (h2 b1)

section X1c
variable {d : Nat} {post : Outcome × zS → Prop}
theorem zTK.ty {fs as : List Nat} {S S' : zS} (k : zTK fs as S S') (a : Nat) : ztyp S' a = ztyp S a ∧ zlen S' a = zlen S a := by
  have e : gT S' = gT S := by show S'.2.2.2.2.2.1 = S.2.2.2.2.2.1; rw [k.1.2]
  unfold ztyp zlen
  rw [e]
  exact ⟨rfl, rfl⟩
/-- the house's SHA-256: n bytes of a to b -/
theorem x_sha {a b n : Nat} {f : Nat → Int32} {S : zS} (hF : zFin true S) (hd : 3 ≤ d) (hc : xC S) (hn : n ≤ 128) (hat : ztyp S a = 101) (hl : n ≤ zlen S a) (ha : a ∉ [4, 5, 6, 7, 8]) (hbt : ztyp S b = 101) (hbl : 32 ≤ zlen S b) (hb : b ∉ [2, 3, 4, 5, 6, 7, 8]) (hbL : b < zLB) (hf : ∀ j, j < n → gA S a j &&& 255 = f j)
    (h : ∀ S', zTK [] [4, 5, 6, 7, 8, b] S S' → (∀ j, j < 32 → gA S' b j = sg (hSha n f j)) → (∀ j, 32 ≤ j → gA S' b j = gA S b j) → post (.returned none, S')) : zCall d 46 [.ref 1, .ref a, .int (Int32.ofNat n), .ref b] S post := by
  refine xs0 hF a b n ?_
  refine zFill0 (L := fun k => [.ref 1, .ref a, .int (Int32.ofNat n), .ref b, .int (Int32.ofNat k)]) 4 8 (gA S 3) ?_ ?_
  · intro k hk ih
    exact xs1 (S := sAr S 4 0 k (gA S 3)) hF a b n k hk ih
  have k0 : zTK [] [4] S (sAr S 4 0 8 (gA S 3)) := zTK_sAr (by decide)
  refine xs2 (S := sAr S 4 0 8 (gA S 3)) hF hd a b n hn hl (hc.k k0 (by decide) (by decide) (by decide)) hat ha (tk_hf ha hf k0) ?_
  intro G kG eG
  have kS : zTK [] [4, 5, 6, 7, 8] S G := (k0.w (by decide) (by decide)).tr kG
  have hb4 : b ≠ 4 ∧ b ∉ [4, 5, 6, 7, 8] := ⟨fun e => hb (by rw [e]; decide), fun e => hb (List.mem_cons_of_mem _ (List.mem_cons_of_mem _ e))⟩
  refine zFill0 (L := fun k => [.ref 1, .retAddr 0, .retAddr 0, .ref b, .int (Int32.ofNat k)]) b 32 (fun k => (((gA G 4 (k / 4)) >>> ((Int32.ofNat (24 - (8 * (k % 4)))) &&& 31) : Int32) : Int32).toInt8.toInt32) ?_ ?_
  · intro k hk ih
    refine xs3 (S := sAr G b 0 k (fun k => (((gA G 4 (k / 4)) >>> ((Int32.ofNat (24 - (8 * (k % 4)))) &&& 31) : Int32) : Int32).toInt8.toInt32)) (kS.fin hF) b k (by omega) ((kS.ty b).1.trans hbt) (Nat.le_trans hbl (Nat.le_of_eq (kS.ty b).2.symm)) (fun x => by omega) (fun _ => ?_)
    rw [gA_sAr_ne hb4.1.symm]
    exact ih
  refine xs3 (S := sAr G b 0 32 (fun k => (((gA G 4 (k / 4)) >>> ((Int32.ofNat (24 - (8 * (k % 4)))) &&& 31) : Int32) : Int32).toInt8.toInt32)) (kS.fin hF) b 32 (by omega) ((kS.ty b).1.trans hbt) (Nat.le_trans hbl (Nat.le_of_eq (kS.ty b).2.symm)) (fun _ => ?_) (fun x => absurd (by omega) x)
  refine h _ ((kS.w (by decide) (fun x hx => by simp only [List.mem_cons, List.not_mem_nil, or_false] at hx ⊢; omega)).tr (zTK_sAr (by simp))) (fun j hj => ?_) (fun j hj => ?_)
  · rw [gA_sAr0 hj, eG (j / 4) (by omega)]
    unfold hSha
    rw [sg_and]
    unfold sg
    congr 3
    exact hIt_congr (c := 8) (fun _ _ _ _ h2 h3 => hSblk_congr h2 h3) _ (fun _ _ => rfl) (fun j hj => (gA_sAr0 hj).trans (hc.2.1 j hj)) (j / 4) (by omega)
  · rw [gA_sAr_out (by omega)]
    exact kS.A hb4.2
/-- the house's RIPEMD-160 -/
theorem x_ripemd {a b n : Nat} {f : Nat → Int32} {S : zS} (hF : zFin true S) (hd : 8 ≤ d) (hc : xC S) (hn : n ≤ 128) (hat : ztyp S a = 101) (hl : n ≤ zlen S a) (ha : a ∉ [4, 5, 6, 7, 8]) (hbt : ztyp S b = 101) (hbl : 20 ≤ zlen S b) (hb : b ∉ [2, 3, 4, 5, 6, 7, 8]) (hbL : b < zLB) (hf : ∀ j, j < n → gA S a j &&& 255 = f j)
    (h : ∀ S', zTK [] [4, 5, 6, 7, 8, b] S S' → (∀ j, j < 20 → gA S' b j = sg (hRip n f j)) → (∀ j, 20 ≤ j → gA S' b j = gA S b j) → post (.returned none, S')) : zCall d 57 [.ref 1, .ref a, .int (Int32.ofNat n), .ref b] S post := by
  refine xr0 hF hd a b n hn hl hc hat ha hf ?_
  intro G kG eG
  have kS : zTK [] [4, 5, 6, 7, 8] S G := (((((zTK_sA (by decide)).tr (zTK_sA (by decide))).tr (zTK_sA (by decide))).tr (zTK_sA (by decide))).tr (zTK_sA (by decide))).tr kG
  have hb4 : b ≠ 4 ∧ b ∉ [4, 5, 6, 7, 8] := ⟨fun e => hb (by rw [e]; decide), fun e => hb (List.mem_cons_of_mem _ (List.mem_cons_of_mem _ e))⟩
  refine zFill0 (L := fun k => [.ref 1, .retAddr 0, .retAddr 0, .ref b, .int (Int32.ofNat k)]) b 20 (fun k => (((gA G 4 (k / 4)) >>> ((Int32.ofNat (8 * (k % 4))) &&& 31) : Int32) : Int32).toInt8.toInt32) ?_ ?_
  · intro k hk ih
    refine xr1 (S := sAr G b 0 k (fun k => (((gA G 4 (k / 4)) >>> ((Int32.ofNat (8 * (k % 4))) &&& 31) : Int32) : Int32).toInt8.toInt32)) (kS.fin hF) b k (by omega) ((kS.ty b).1.trans hbt) (Nat.le_trans hbl (Nat.le_of_eq (kS.ty b).2.symm)) (fun x => by omega) (fun _ => ?_)
    rw [gA_sAr_ne hb4.1.symm]
    exact ih
  refine xr1 (S := sAr G b 0 20 (fun k => (((gA G 4 (k / 4)) >>> ((Int32.ofNat (8 * (k % 4))) &&& 31) : Int32) : Int32).toInt8.toInt32)) (kS.fin hF) b 20 (by omega) ((kS.ty b).1.trans hbt) (Nat.le_trans hbl (Nat.le_of_eq (kS.ty b).2.symm)) (fun _ => ?_) (fun x => absurd (by omega) x)
  refine h _ ((kS.w (by decide) (fun x hx => by simp only [List.mem_cons, List.not_mem_nil, or_false] at hx ⊢; omega)).tr (zTK_sAr (by simp))) (fun j hj => ?_) (fun j hj => ?_)
  · rw [gA_sAr0 hj, eG (j / 4) (by omega)]
    unfold hRip
    rw [sg_and]
    unfold sg
    congr 3
    refine hIt_congr (c := 5) (fun _ _ _ _ h2 h3 => rBlk_congr h2 h3) _ (fun _ _ => rfl) (fun j hj => ?_) (j / 4) (by omega)
    have : j = 0 ∨ j = 1 ∨ j = 2 ∨ j = 3 ∨ j = 4 := by omega
    rcases this with rfl | rfl | rfl | rfl | rfl <;> rfl
  · rw [gA_sAr_out (by omega)]
    exact kS.A hb4.2
end X1c

