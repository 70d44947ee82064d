set_option maxRecDepth 100000
/-! ===== the twin's locks ===== -/
theorem zi_shrE {x y : Int32} {a c : Nat} (h : x = Int32.ofNat a) (ha : a < 2147483648) (hy : y &&& 31 = Int32.ofNat c ∧ c < 32) : (x >>> (y &&& 31) : Int32) = Int32.ofNat (a / 2 ^ c) := by
  rw [h, hy.1]
  apply Int32.toBitVec_inj.mp
  rw [Int32.toBitVec_shiftRight]
  have e1 : ∀ c, c < 32 → (Int32.ofNat c).toBitVec.smod 32 = BitVec.ofNat 32 c := by decide +kernel
  rw [e1 c hy.2]
  have ea : (Int32.ofNat a).toBitVec.toNat = a := by
    show a % 4294967296 = a
    omega
  have hm : (Int32.ofNat a).toBitVec.msb = false := by
    rw [BitVec.msb_eq_decide, ea]
    simp
    omega
  have ec : (BitVec.ofNat 32 c).toNat = c := by
    show c % 4294967296 = c
    have := hy.2
    omega
  apply BitVec.eq_of_toNat_eq
  show (BitVec.sshiftRight (Int32.ofNat a).toBitVec (BitVec.ofNat 32 c).toNat).toNat = _
  rw [ec, BitVec.sshiftRight_eq_of_msb_false hm, BitVec.toNat_ushiftRight, ea, Nat.shiftRight_eq_div_pow]
  show _ = (a / 2 ^ c) % 4294967296
  have : a / 2 ^ c ≤ a := Nat.div_le_self _ _
  exact (Nat.mod_eq_of_lt (Nat.lt_of_le_of_lt this (by omega))).symm
theorem lt0_4 {d : Nat} {S : zS} (hF : zFin true S) (n v : Nat) (c0 : Int32)  (hn : n < 3000) (hk : gA S 1610 n = Int32.ofNat 4) (hv : gA S 1611 n = Int32.ofNat v) (hv1 : v < 2147483648) (hc0 : gA S 1612 n = c0) {post : Outcome × zS → Prop} (h1 : zEv d 146 75 [.ref 1592, .int (Int32.ofNat n), .int (Int32.ofNat 4), .int c0, .retAddr 0, .retAddr 0] [] (sA S 1618 n (Int32.ofNat (znt (((Int32.ofNat (v / 4194304)) &&& (1 : Int32)) = 1) 8 4))) post) : zCall d 146 [.ref 1592, .int (Int32.ofNat n)] S post := by
  have ht : ztab 146 = ztb146 := rfl
  show zEv d 146 0 [.ref 1592, .int (Int32.ofNat n), .retAddr 0, .retAddr 0, .retAddr 0, .retAddr 0] [] S post
  refine zv_c1 ht rfl rfl ?_
  refine zv_gl (st' := [.ref 1610]) ht rfl hF rfl rfl rfl ?_
  refine zv_c1 ht rfl rfl ?_
  refine zv_iaE (j := n) (x := 4) ht rfl rfl rfl rfl (zi_natE (a := n) rfl (by omega)) ⟨(Or.inl rfl), zi_inE (a := n) (n := 3000) rfl (by omega) (by omega)⟩ hk ?_
  refine zv_c2 (L' := [.ref 1592, .int (Int32.ofNat n), .int 4, .retAddr 0, .retAddr 0, .retAddr 0]) ht rfl rfl ?_
  refine zv_c1 ht rfl rfl (zv_c1 ht rfl rfl ?_)
  refine zv_br ht rfl rfl rfl (fun _ => ?_) (fun h => absurd (by decide) h)
  refine zv_c1 ht rfl rfl (zv_c1 ht rfl rfl ?_)
  refine zv_br ht rfl rfl rfl (fun h => absurd h (by decide)) (fun _ => ?_)
  refine zv_c1 ht rfl rfl ?_
  refine zv_gl (st' := [.ref 1618]) ht rfl hF rfl rfl rfl ?_
  refine zv_c1 ht rfl rfl (zv_c1 ht rfl rfl ?_)
  refine zv_gl (st' := [.ref 1611, .int (Int32.ofNat n), .ref 1618]) ht rfl hF rfl rfl rfl ?_
  refine zv_c1 ht rfl rfl ?_
  refine zv_iaE (j := n) (x := Int32.ofNat v) ht rfl rfl rfl rfl (zi_natE (a := n) rfl (by omega)) ⟨(Or.inl rfl), zi_inE (a := n) (n := 3000) rfl (by omega) (by omega)⟩ hv ?_
  refine zv_c1 ht rfl rfl ?_
  refine zv_e1 (x := Int32.ofNat (v / 4194304)) ht rfl rfl (zi_shrE (a := v) (c := 22) rfl (by omega) (by decide)) ?_
  refine zv_c1 ht rfl rfl ?_
  refine zv_c1 (st' := [.int ((Int32.ofNat (v / 4194304)) &&& (1 : Int32)), .int (Int32.ofNat n), .ref 1618]) (S' := S) ht rfl rfl ?_
  refine zv_c1 ht rfl rfl ?_
  have J2 : zEv d 146 67 [.ref 1592, .int (Int32.ofNat n), .int 4, .retAddr 0, .retAddr 0, .retAddr 0] [.int (Int32.ofNat (znt (((Int32.ofNat (v / 4194304)) &&& (1 : Int32)) = 1) 8 4)), .int (Int32.ofNat n), .ref 1618] S post := by
    refine zv_is (j := n) (x := Int32.ofNat (znt (((Int32.ofNat (v / 4194304)) &&& (1 : Int32)) = 1) 8 4)) ht rfl rfl rfl rfl (zi_natE (a := n) rfl (by omega)) ⟨rfl, zi_inE (a := n) (n := 3000) rfl (by omega) (by omega)⟩ ?_
    refine zv_c1 ht rfl rfl ?_
    refine zv_gl (st' := [.ref 1612]) ht rfl hF rfl rfl rfl ?_
    refine zv_c1 ht rfl rfl ?_
    refine zv_iaE (j := n) (x := c0) ht rfl rfl rfl rfl (zi_natE (a := n) rfl (by omega)) ⟨(Or.inl rfl), zi_inE (a := n) (n := 3000) rfl (by omega) (by omega)⟩ hc0 ?_
    refine zv_c2 (L' := [.ref 1592, .int (Int32.ofNat n), .int 4, .int c0, .retAddr 0, .retAddr 0]) ht rfl rfl ?_
    exact h1
  refine zv_br ht rfl rfl rfl (fun b1 => ?_) (fun b1 => ?_)
  · refine zv_c1 ht rfl rfl ?_
    exact (zv_sub (zz := Int32.ofNat (znt (((Int32.ofNat (v / 4194304)) &&& (1 : Int32)) = 1) 8 4)) (zy := 4) (p := fun zz => zEv d 146 67 [.ref 1592, .int (Int32.ofNat n), .int 4, .retAddr 0, .retAddr 0, .retAddr 0] [.int zz, .int (Int32.ofNat n), .ref 1618] S post) (congrArg Int32.ofNat (znt_neg b1)) J2)
  · replace b1 : ((Int32.ofNat (v / 4194304)) &&& (1 : Int32)) = 1 := Classical.not_not.mp b1
    refine zv_c1 ht rfl rfl (zv_c1 ht rfl rfl ?_)
    exact (zv_sub (zz := Int32.ofNat (znt (((Int32.ofNat (v / 4194304)) &&& (1 : Int32)) = 1) 8 4)) (zy := 8) (p := fun zz => zEv d 146 67 [.ref 1592, .int (Int32.ofNat n), .int 4, .retAddr 0, .retAddr 0, .retAddr 0] [.int zz, .int (Int32.ofNat n), .ref 1618] S post) (congrArg Int32.ofNat (znt_pos b1)) J2)

theorem lt0_5 {d : Nat} {S : zS} (hF : zFin true S) (hd : 1 ≤ d) (n v : Nat) (c0 : Int32)  (hn : n < 3000) (hk : gA S 1610 n = Int32.ofNat 5) (hv : gA S 1611 n = Int32.ofNat v) (hv1 : v < 2147483648) (hc0 : gA S 1612 n = c0) {post : Outcome × zS → Prop} (h1 : zEv d 146 75 [.ref 1592, .int (Int32.ofNat n), .int (Int32.ofNat 5), .int c0, .retAddr 0, .retAddr 0] [] (sA S 1618 n (Int32.ofNat (znt (¬ (¬ ((lg_cmp (Int32.toInt64 (Int32.ofNat v)) 500000000) < 0))) 1 2))) post) : zCall d 146 [.ref 1592, .int (Int32.ofNat n)] S post := by
  have ht : ztab 146 = ztb146 := rfl
  show zEv d 146 0 [.ref 1592, .int (Int32.ofNat n), .retAddr 0, .retAddr 0, .retAddr 0, .retAddr 0] [] S post
  refine zv_c1 ht rfl rfl ?_
  refine zv_gl (st' := [.ref 1610]) ht rfl hF rfl rfl rfl ?_
  refine zv_c1 ht rfl rfl ?_
  refine zv_iaE (j := n) (x := 5) ht rfl rfl rfl rfl (zi_natE (a := n) rfl (by omega)) ⟨(Or.inl rfl), zi_inE (a := n) (n := 3000) rfl (by omega) (by omega)⟩ hk ?_
  refine zv_c2 (L' := [.ref 1592, .int (Int32.ofNat n), .int 5, .retAddr 0, .retAddr 0, .retAddr 0]) ht rfl rfl ?_
  refine zv_c1 ht rfl rfl (zv_c1 ht rfl rfl ?_)
  refine zv_br ht rfl rfl rfl (fun h => absurd h (by decide)) (fun _ => ?_)
  refine zv_c1 ht rfl rfl ?_
  refine zv_gl (st' := [.ref 1618]) ht rfl hF rfl rfl rfl ?_
  refine zv_c1 ht rfl rfl (zv_c1 ht rfl rfl ?_)
  refine zv_gl (st' := [.ref 1611, .int (Int32.ofNat n), .ref 1618]) ht rfl hF rfl rfl rfl ?_
  refine zv_c1 ht rfl rfl ?_
  refine zv_iaE (j := n) (x := Int32.ofNat v) ht rfl rfl rfl rfl (zi_natE (a := n) rfl (by omega)) ⟨(Or.inl rfl), zi_inE (a := n) (n := 3000) rfl (by omega) (by omega)⟩ hv ?_
  refine zv_c1 (st' := [.long (Int32.toInt64 (Int32.ofNat v)), .int (Int32.ofNat n), .ref 1618]) (S' := S) ht rfl rfl ?_
  have C2 : ∀ (pst1 : Outcome × zS → Prop), (pst1 (.returned (some (.int (zbo (¬ ((lg_cmp (Int32.toInt64 (Int32.ofNat v)) 500000000) < 0))))), S)) → zCall (d - 1) 147 [.long (Int32.toInt64 (Int32.ofNat v))] S pst1 := by
    intro pst1 k7
    have ht3 : ztab 147 = ztb147 := rfl
    show zEv (d - 1) 147 0 [.long (Int32.toInt64 (Int32.ofNat v)), .retAddr 0] [] S pst1
    refine zv_c1 ht3 rfl rfl (zv_c1 ht3 rfl rfl ?_)
    refine zv_c1 (st' := [.int (lg_cmp (Int32.toInt64 (Int32.ofNat v)) 500000000)]) (S' := S) ht3 rfl rfl ?_
    have J5 : zEv (d - 1) 147 13 [.retAddr 0, .retAddr 0] [.int (zbo (¬ ((lg_cmp (Int32.toInt64 (Int32.ofNat v)) 500000000) < 0)))] S pst1 := by
      exact zv_rc ht3 rfl rfl rfl rfl zbo_rng k7
    refine zv_br ht3 rfl rfl rfl (fun b4 => ?_) (fun b4 => ?_)
    · refine zv_c1 ht3 rfl rfl ?_
      exact zEv.wk (L := [.retAddr 0, .retAddr 0]) (L' := [.long (Int32.toInt64 (Int32.ofNat v)), .retAddr 0]) (And.intro (Or.inr rfl) (And.intro (Or.inl rfl) trivial)) (zv_sub (zz := zbo (¬ ((lg_cmp (Int32.toInt64 (Int32.ofNat v)) 500000000) < 0))) (zy := 0) (p := fun zz => zEv (d - 1) 147 13 [.retAddr 0, .retAddr 0] [.int zz] S pst1) (zbo_neg (fun h => h b4)) J5)
    · refine zv_c1 ht3 rfl rfl (zv_c1 ht3 rfl rfl ?_)
      exact zEv.wk (L := [.retAddr 0, .retAddr 0]) (L' := [.long (Int32.toInt64 (Int32.ofNat v)), .retAddr 0]) (And.intro (Or.inr rfl) (And.intro (Or.inl rfl) trivial)) (zv_sub (zz := zbo (¬ ((lg_cmp (Int32.toInt64 (Int32.ofNat v)) 500000000) < 0))) (zy := 1) (p := fun zz => zEv (d - 1) 147 13 [.retAddr 0, .retAddr 0] [.int zz] S pst1) (zbo_pos b4) J5)
  refine zv_cl ht rfl rfl rfl rfl (by omega) (Nat.le_of_ble_eq_true rfl) (C2 _ ?_)
  show zEv d 146 27 [.ref 1592, .int (Int32.ofNat n), .int 5, .retAddr 0, .retAddr 0, .retAddr 0] [.int (zbo (¬ ((lg_cmp (Int32.toInt64 (Int32.ofNat v)) 500000000) < 0))), .int (Int32.ofNat n), .ref 1618] S post
  have J9 : zEv d 146 35 [.ref 1592, .int (Int32.ofNat n), .int 5, .retAddr 0, .retAddr 0, .retAddr 0] [.int (Int32.ofNat (znt (¬ (¬ ((lg_cmp (Int32.toInt64 (Int32.ofNat v)) 500000000) < 0))) 1 2)), .int (Int32.ofNat n), .ref 1618] S post := by
    refine zv_is (j := n) (x := Int32.ofNat (znt (¬ (¬ ((lg_cmp (Int32.toInt64 (Int32.ofNat v)) 500000000) < 0))) 1 2)) ht rfl rfl rfl rfl (zi_natE (a := n) rfl (by omega)) ⟨rfl, zi_inE (a := n) (n := 3000) rfl (by omega) (by omega)⟩ ?_
    refine zv_c1 ht rfl rfl (zv_c1 ht rfl rfl ?_)
    refine zv_br ht rfl rfl rfl (fun _ => ?_) (fun h => absurd (by decide) h)
    refine zv_c1 ht rfl rfl ?_
    refine zv_gl (st' := [.ref 1612]) ht rfl hF rfl rfl rfl ?_
    refine zv_c1 ht rfl rfl ?_
    refine zv_iaE (j := n) (x := c0) ht rfl rfl rfl rfl (zi_natE (a := n) rfl (by omega)) ⟨(Or.inl rfl), zi_inE (a := n) (n := 3000) rfl (by omega) (by omega)⟩ hc0 ?_
    refine zv_c2 (L' := [.ref 1592, .int (Int32.ofNat n), .int 5, .int c0, .retAddr 0, .retAddr 0]) ht rfl rfl ?_
    exact h1
  refine zv_br ht rfl rfl rfl (fun b8 => ?_) (fun b8 => ?_)
  · replace b8 : ¬ (¬ ((lg_cmp (Int32.toInt64 (Int32.ofNat v)) 500000000) < 0)) := (zbo_eq0 : (zbo (¬ ((lg_cmp (Int32.toInt64 (Int32.ofNat v)) 500000000) < 0))) = 0 ↔ ¬ (¬ ((lg_cmp (Int32.toInt64 (Int32.ofNat v)) 500000000) < 0))).mp b8
    refine zv_c1 ht rfl rfl ?_
    exact (zv_sub (zz := Int32.ofNat (znt (¬ (¬ ((lg_cmp (Int32.toInt64 (Int32.ofNat v)) 500000000) < 0))) 1 2)) (zy := 1) (p := fun zz => zEv d 146 35 [.ref 1592, .int (Int32.ofNat n), .int 5, .retAddr 0, .retAddr 0, .retAddr 0] [.int zz, .int (Int32.ofNat n), .ref 1618] S post) (congrArg Int32.ofNat (znt_pos b8)) J9)
  · replace b8 : ¬ ((lg_cmp (Int32.toInt64 (Int32.ofNat v)) 500000000) < 0) := Classical.byContradiction (fun h => b8 ((zbo_eq0 : (zbo (¬ ((lg_cmp (Int32.toInt64 (Int32.ofNat v)) 500000000) < 0))) = 0 ↔ ¬ (¬ ((lg_cmp (Int32.toInt64 (Int32.ofNat v)) 500000000) < 0))).mpr h))
    refine zv_c1 ht rfl rfl (zv_c1 ht rfl rfl ?_)
    exact (zv_sub (zz := Int32.ofNat (znt (¬ (¬ ((lg_cmp (Int32.toInt64 (Int32.ofNat v)) 500000000) < 0))) 1 2)) (zy := 2) (p := fun zz => zEv d 146 35 [.ref 1592, .int (Int32.ofNat n), .int 5, .retAddr 0, .retAddr 0, .retAddr 0] [.int zz, .int (Int32.ofNat n), .ref 1618] S post) (congrArg Int32.ofNat (znt_neg (fun h => h b8))) J9)

theorem lt0 {d : Nat} {S : zS} (hF : zFin true S) (n k : Nat) (c0 : Int32)  (hn : n < 3000) (hk1 : k < 100) (hk4 : ¬ k = 4) (hk5 : ¬ k = 5) (hk : gA S 1610 n = Int32.ofNat k) (hc0 : gA S 1612 n = c0) {post : Outcome × zS → Prop} (h1 : zEv d 146 75 [.ref 1592, .int (Int32.ofNat n), .int (Int32.ofNat k), .int c0, .retAddr 0, .retAddr 0] [] S post) : zCall d 146 [.ref 1592, .int (Int32.ofNat n)] S post := by
  have ht : ztab 146 = ztb146 := rfl
  show zEv d 146 0 [.ref 1592, .int (Int32.ofNat n), .retAddr 0, .retAddr 0, .retAddr 0, .retAddr 0] [] S post
  refine zv_c1 ht rfl rfl ?_
  refine zv_gl (st' := [.ref 1610]) ht rfl hF rfl rfl rfl ?_
  refine zv_c1 ht rfl rfl ?_
  refine zv_iaE (j := n) (x := Int32.ofNat k) ht rfl rfl rfl rfl (zi_natE (a := n) rfl (by omega)) ⟨(Or.inl rfl), zi_inE (a := n) (n := 3000) rfl (by omega) (by omega)⟩ hk ?_
  refine zv_c2 (L' := [.ref 1592, .int (Int32.ofNat n), .int (Int32.ofNat k), .retAddr 0, .retAddr 0, .retAddr 0]) ht rfl rfl ?_
  refine zv_c1 ht rfl rfl (zv_c1 ht rfl rfl ?_)
  refine zv_br ht rfl rfl rfl (fun b1 => ?_) (fun b1 => (show False from by have hq := b1; have hz : k = 5 := (zi_eqE (a := k) (b := 5) rfl rfl (by omega) (by omega)).mp (Classical.not_not.mp hq); omega).elim)
  refine zv_c1 ht rfl rfl (zv_c1 ht rfl rfl ?_)
  refine zv_br ht rfl rfl rfl (fun b2 => ?_) (fun b2 => (show False from by have hq := b2; have hz : k = 4 := (zi_eqE (a := k) (b := 4) rfl rfl (by omega) (by omega)).mp (Classical.not_not.mp hq); omega).elim)
  refine zv_c1 ht rfl rfl ?_
  refine zv_gl (st' := [.ref 1612]) ht rfl hF rfl rfl rfl ?_
  refine zv_c1 ht rfl rfl ?_
  refine zv_iaE (j := n) (x := c0) ht rfl rfl rfl rfl (zi_natE (a := n) rfl (by omega)) ⟨(Or.inl rfl), zi_inE (a := n) (n := 3000) rfl (by omega) (by omega)⟩ hc0 ?_
  refine zv_c2 (L' := [.ref 1592, .int (Int32.ofNat n), .int (Int32.ofNat k), .int c0, .retAddr 0, .retAddr 0]) ht rfl rfl ?_
  exact h1

theorem lt1 {d : Nat} {S : zS} (hF : zFin true S) (n k c kc : Nat) (fn fc ln lc nx : Int32)  (hn : n < 3000) (hc : c < 3000) (hk : k < 100) (hkc1 : kc < 100) (hnc : n ≠ c) (hkc : gA S 1610 c = Int32.ofNat kc) (hfn : gA S 1617 n = fn) (hfc : gA S 1617 c = fc) (hln : gA S 1618 n = ln) (hlc : gA S 1618 c = lc) (hnx : gA S 1613 c = nx) {post : Outcome × zS → Prop} (h1 : (¬ (kc = 30)) → zEv d 146 136 [.ref 1592, .int (Int32.ofNat n), .int (Int32.ofNat k), .int (Int32.ofNat c), .int nx, .retAddr 0] [] (sA (sA S 1617 n (fn ||| (fc &&& (512 : Int32)))) 1618 n (ln ||| lc)) post) (h2 : (kc = 30) → zEv d 146 75 [.ref 1592, .int (Int32.ofNat n), .int (Int32.ofNat k), .int nx, .retAddr 0, .retAddr 0] [] S post) : zEv d 146 75 [.ref 1592, .int (Int32.ofNat n), .int (Int32.ofNat k), .int (Int32.ofNat c), .retAddr 0, .retAddr 0] [] S post := by
  have ht : ztab 146 = ztb146 := rfl
  refine zv_c1 ht rfl rfl (zv_c1 ht rfl rfl ?_)
  refine zv_br ht rfl rfl rfl (fun b1 => ((zi_nneg rfl (by omega) (by decide)) b1).elim) (fun b1 => ?_)
  refine zv_c1 ht rfl rfl ?_
  refine zv_gl (st' := [.ref 1610]) ht rfl hF rfl rfl rfl ?_
  refine zv_c1 ht rfl rfl ?_
  refine zv_iaE (j := c) (x := Int32.ofNat kc) ht rfl rfl rfl rfl (zi_natE (a := c) rfl (by omega)) ⟨(Or.inl rfl), zi_inE (a := c) (n := 3000) rfl (by omega) (by omega)⟩ hkc ?_
  refine zv_c1 ht rfl rfl ?_
  refine zv_br ht rfl rfl rfl (fun b2 => ?_) (fun b2 => ?_)
  · replace b2 : ¬ (kc = 30) := fun h => b2 ((zi_eqE (a := kc) (b := 30) rfl rfl (by omega) (by omega)).mpr h)
    refine zv_c1 ht rfl rfl ?_
    refine zv_gl (st' := [.ref 1617]) ht rfl hF rfl rfl rfl ?_
    refine zv_c1 ht rfl rfl (zv_c1 ht rfl rfl ?_)
    refine zv_iaE (j := n) (x := fn) ht rfl rfl rfl rfl (zi_natE (a := n) rfl (by omega)) ⟨(Or.inl rfl), zi_inE (a := n) (n := 3000) rfl (by omega) (by omega)⟩ hfn ?_
    refine zv_c1 ht rfl rfl ?_
    refine zv_gl (st' := [.ref 1617, .int fn, .int (Int32.ofNat n), .ref 1617]) ht rfl hF rfl rfl rfl ?_
    refine zv_c1 ht rfl rfl ?_
    refine zv_iaE (j := c) (x := fc) ht rfl rfl rfl rfl (zi_natE (a := c) rfl (by omega)) ⟨(Or.inl rfl), zi_inE (a := c) (n := 3000) rfl (by omega) (by omega)⟩ hfc ?_
    refine zv_c1 ht rfl rfl ?_
    refine zv_c1 (st' := [.int (fc &&& (512 : Int32)), .int fn, .int (Int32.ofNat n), .ref 1617]) (S' := S) ht rfl rfl ?_
    refine zv_c1 (st' := [.int (fn ||| (fc &&& (512 : Int32))), .int (Int32.ofNat n), .ref 1617]) (S' := S) ht rfl rfl ?_
    refine zv_is (j := n) (x := fn ||| (fc &&& (512 : Int32))) ht rfl rfl rfl rfl (zi_natE (a := n) rfl (by omega)) ⟨rfl, zi_inE (a := n) (n := 3000) rfl (by omega) (by omega)⟩ ?_
    refine zv_c1 ht rfl rfl ?_
    refine zv_gl (st' := [.ref 1618]) ht rfl hF rfl rfl rfl ?_
    refine zv_c1 ht rfl rfl (zv_c1 ht rfl rfl ?_)
    refine zv_iaE (j := n) (x := ln) ht rfl rfl rfl rfl (zi_natE (a := n) rfl (by omega)) ⟨(Or.inl rfl), zi_inE (a := n) (n := 3000) rfl (by omega) (by omega)⟩ hln ?_
    refine zv_c1 ht rfl rfl ?_
    refine zv_gl (st' := [.ref 1618, .int ln, .int (Int32.ofNat n), .ref 1618]) ht rfl hF rfl rfl rfl ?_
    refine zv_c1 ht rfl rfl ?_
    refine zv_iaE (j := c) (x := lc) ht rfl rfl rfl rfl (zi_natE (a := c) rfl (by omega)) ⟨(Or.inl rfl), zi_inE (a := c) (n := 3000) rfl (by omega) (by omega)⟩ hlc ?_
    refine zv_c1 (st' := [.int (ln ||| lc), .int (Int32.ofNat n), .ref 1618]) (S' := sA S 1617 n (fn ||| (fc &&& (512 : Int32)))) ht rfl rfl ?_
    refine zv_is (j := n) (x := ln ||| lc) ht rfl rfl rfl rfl (zi_natE (a := n) rfl (by omega)) ⟨rfl, zi_inE (a := n) (n := 3000) rfl (by omega) (by omega)⟩ ?_
    refine zv_c1 ht rfl rfl ?_
    refine zv_gl (st' := [.ref 1613]) ht rfl hF rfl rfl rfl ?_
    refine zv_c1 ht rfl rfl ?_
    refine zv_iaE (j := c) (x := nx) ht rfl rfl rfl rfl (zi_natE (a := c) rfl (by omega)) ⟨(Or.inl rfl), zi_inE (a := c) (n := 3000) rfl (by omega) (by omega)⟩ hnx ?_
    refine zv_c2 (L' := [.ref 1592, .int (Int32.ofNat n), .int (Int32.ofNat k), .int (Int32.ofNat c), .int nx, .retAddr 0]) ht rfl rfl ?_
    exact (h1 b2)
  · replace b2 : kc = 30 := (zi_eqE (a := kc) (b := 30) rfl rfl (by omega) (by omega)).mp (Classical.not_not.mp b2)
    refine zv_c1 ht rfl rfl (zv_c1 ht rfl rfl ?_)
    refine zv_gl (st' := [.ref 1613]) ht rfl hF rfl rfl rfl ?_
    refine zv_c1 ht rfl rfl ?_
    refine zv_iaE (j := c) (x := nx) ht rfl rfl rfl rfl (zi_natE (a := c) rfl (by omega)) ⟨(Or.inl rfl), zi_inE (a := c) (n := 3000) rfl (by omega) (by omega)⟩ hnx ?_
    refine zv_c2 (L' := [.ref 1592, .int (Int32.ofNat n), .int (Int32.ofNat k), .int nx, .retAddr 0, .retAddr 0]) ht rfl rfl ?_
    refine zv_c1 ht rfl rfl ?_
    exact (h2 b2)

theorem lt2 {d : Nat} {S : zS} (hF : zFin true S) (n k : Nat)  (hn : n < 3000) (hk : k < 100) {post : Outcome × zS → Prop} (h1 : post (.returned none, S)) : zEv d 146 75 [.ref 1592, .int (Int32.ofNat n), .int (Int32.ofNat k), .int (-1), .retAddr 0, .retAddr 0] [] S post := by
  have ht : ztab 146 = ztb146 := rfl
  refine zv_c1 ht rfl rfl (zv_c1 ht rfl rfl ?_)
  refine zv_br ht rfl rfl rfl (fun _ => ?_) (fun h => absurd (by decide) h)
  exact zv_rt ht rfl rfl rfl rfl h1

theorem lt3 {d : Nat} {S : zS} (hF : zFin true S) (hd : 1 ≤ d) (n k c e v c1 c2 : Nat) (fn lc le ne : Int32)  (hn : n < 3000) (hc : c < 3000) (he : e < 3000) (hk : k < 100) (hv1 : v < 2147483648) (hc1 : c1 < 3000) (hc2 : c2 < 3000) (hv : gA S 1611 n = Int32.ofNat v) (hc0 : gA S 1612 n = Int32.ofNat c1) (hnx : gA S 1613 c = Int32.ofNat c2) (hfn : gA S 1617 n = fn) (hlc : gA S 1618 c = lc) (hle : gA S 1618 e = le) (hne : gA S 1613 e = ne) {post : Outcome × zS → Prop} (h1 : ((¬ ((((k = 11) ∨ (k = 12)) ∨ ((k = 17) ∧ (1 < v))) ∨ ((k = 10) ∧ (c = c1) ∧ (e = c2)))) ∨ (¬ (((((¬ ((lc &&& (1 : Int32)) ≤ 0)) ∧ ((0 : Int32) < (le &&& (2 : Int32)))) ∨ ((¬ ((lc &&& (2 : Int32)) ≤ 0)) ∧ ((0 : Int32) < (le &&& (1 : Int32))))) ∨ ((¬ ((lc &&& (4 : Int32)) ≤ 0)) ∧ ((0 : Int32) < (le &&& (8 : Int32))))) ∨ ((¬ ((lc &&& (8 : Int32)) ≤ 0)) ∧ (¬ ((le &&& (4 : Int32)) ≤ 0)))))) → zEv d 146 136 [.ref 1592, .int (Int32.ofNat n), .int (Int32.ofNat k), .int (Int32.ofNat c), .int ne, .retAddr 0] [] S post) (h2 : ((((k = 11) ∨ (k = 12)) ∨ ((k = 17) ∧ (1 < v))) ∨ ((k = 10) ∧ (c = c1) ∧ (e = c2))) → (((((¬ ((lc &&& (1 : Int32)) ≤ 0)) ∧ ((0 : Int32) < (le &&& (2 : Int32)))) ∨ ((¬ ((lc &&& (2 : Int32)) ≤ 0)) ∧ ((0 : Int32) < (le &&& (1 : Int32))))) ∨ ((¬ ((lc &&& (4 : Int32)) ≤ 0)) ∧ ((0 : Int32) < (le &&& (8 : Int32))))) ∨ ((¬ ((lc &&& (8 : Int32)) ≤ 0)) ∧ (¬ ((le &&& (4 : Int32)) ≤ 0)))) → zEv d 146 136 [.ref 1592, .int (Int32.ofNat n), .int (Int32.ofNat k), .int (Int32.ofNat c), .int ne, .retAddr 0] [] (sA S 1617 n (fn ||| (512 : Int32))) post) : zEv d 146 136 [.ref 1592, .int (Int32.ofNat n), .int (Int32.ofNat k), .int (Int32.ofNat c), .int (Int32.ofNat e), .retAddr 0] [] S post := by
  have ht : ztab 146 = ztb146 := rfl
  refine zv_c1 ht rfl rfl (zv_c1 ht rfl rfl ?_)
  refine zv_br ht rfl rfl rfl (fun b1 => ((zi_nneg rfl (by omega) (by decide)) b1).elim) (fun b1 => ?_)
  refine zv_c1 ht rfl rfl (zv_c1 ht rfl rfl ?_)
  have J15 : zEv d 146 202 [.ref 1592, .int (Int32.ofNat n), .int (Int32.ofNat k), .int (Int32.ofNat c), .int (Int32.ofNat e), .retAddr 0] [.int (zbo ((((k = 11) ∨ (k = 12)) ∨ ((k = 17) ∧ (1 < v))) ∨ ((k = 10) ∧ (c = c1) ∧ (e = c2))))] S post := by
    refine zv_c2 (L' := [.ref 1592, .int (Int32.ofNat n), .int (Int32.ofNat k), .int (Int32.ofNat c), .int (Int32.ofNat e), .int (zbo ((((k = 11) ∨ (k = 12)) ∨ ((k = 17) ∧ (1 < v))) ∨ ((k = 10) ∧ (c = c1) ∧ (e = c2))))]) ht rfl rfl ?_
    refine zv_c1 ht rfl rfl ?_
    have J43 : ((¬ ((((k = 11) ∨ (k = 12)) ∨ ((k = 17) ∧ (1 < v))) ∨ ((k = 10) ∧ (c = c1) ∧ (e = c2)))) ∨ (¬ (((((¬ ((lc &&& (1 : Int32)) ≤ 0)) ∧ ((0 : Int32) < (le &&& (2 : Int32)))) ∨ ((¬ ((lc &&& (2 : Int32)) ≤ 0)) ∧ ((0 : Int32) < (le &&& (1 : Int32))))) ∨ ((¬ ((lc &&& (4 : Int32)) ≤ 0)) ∧ ((0 : Int32) < (le &&& (8 : Int32))))) ∨ ((¬ ((lc &&& (8 : Int32)) ≤ 0)) ∧ (¬ ((le &&& (4 : Int32)) ≤ 0)))))) → zEv d 146 240 [.ref 1592, .int (Int32.ofNat n), .int (Int32.ofNat k), .int (Int32.ofNat c), .int (Int32.ofNat e), .retAddr 0] [] S post := by
      intro b44
      refine zv_c1 ht rfl rfl ?_
      refine zv_gl (st' := [.ref 1613]) ht rfl hF rfl rfl rfl ?_
      refine zv_c1 ht rfl rfl ?_
      refine zv_iaE (j := e) (x := ne) ht rfl rfl rfl rfl (zi_natE (a := e) rfl (by omega)) ⟨(Or.inl rfl), zi_inE (a := e) (n := 3000) rfl (by omega) (by omega)⟩ hne ?_
      refine zv_c2 (L' := [.ref 1592, .int (Int32.ofNat n), .int (Int32.ofNat k), .int (Int32.ofNat c), .int ne, .retAddr 0]) ht rfl rfl ?_
      refine zv_c1 ht rfl rfl ?_
      exact (h1 b44)
    refine zv_br ht rfl rfl rfl (fun b17 => ?_) (fun b17 => ?_)
    · replace b17 : ¬ ((((k = 11) ∨ (k = 12)) ∨ ((k = 17) ∧ (1 < v))) ∨ ((k = 10) ∧ (c = c1) ∧ (e = c2))) := (zbo_eq0 : (zbo ((((k = 11) ∨ (k = 12)) ∨ ((k = 17) ∧ (1 < v))) ∨ ((k = 10) ∧ (c = c1) ∧ (e = c2)))) = 0 ↔ ¬ ((((k = 11) ∨ (k = 12)) ∨ ((k = 17) ∧ (1 < v))) ∨ ((k = 10) ∧ (c = c1) ∧ (e = c2)))).mp b17
      exact zEv.wk (L := [.ref 1592, .int (Int32.ofNat n), .int (Int32.ofNat k), .int (Int32.ofNat c), .int (Int32.ofNat e), .retAddr 0]) (L' := [.ref 1592, .int (Int32.ofNat n), .int (Int32.ofNat k), .int (Int32.ofNat c), .int (Int32.ofNat e), .int (zbo ((((k = 11) ∨ (k = 12)) ∨ ((k = 17) ∧ (1 < v))) ∨ ((k = 10) ∧ (c = c1) ∧ (e = c2))))]) (And.intro (Or.inl rfl) (And.intro (Or.inl rfl) (And.intro (Or.inl rfl) (And.intro (Or.inl rfl) (And.intro (Or.inl rfl) (And.intro (Or.inr rfl) trivial)))))) (J43 (Or.inl b17))
    · replace b17 : (((k = 11) ∨ (k = 12)) ∨ ((k = 17) ∧ (1 < v))) ∨ ((k = 10) ∧ (c = c1) ∧ (e = c2)) := Classical.byContradiction (fun h => b17 ((zbo_eq0 : (zbo ((((k = 11) ∨ (k = 12)) ∨ ((k = 17) ∧ (1 < v))) ∨ ((k = 10) ∧ (c = c1) ∧ (e = c2)))) = 0 ↔ ¬ ((((k = 11) ∨ (k = 12)) ∨ ((k = 17) ∧ (1 < v))) ∨ ((k = 10) ∧ (c = c1) ∧ (e = c2)))).mpr h))
      refine zv_c1 ht rfl rfl ?_
      refine zv_gl (st' := [.ref 1618]) ht rfl hF rfl rfl rfl ?_
      refine zv_c1 ht rfl rfl ?_
      refine zv_iaE (j := c) (x := lc) ht rfl rfl rfl rfl (zi_natE (a := c) rfl (by omega)) ⟨(Or.inl rfl), zi_inE (a := c) (n := 3000) rfl (by omega) (by omega)⟩ hlc ?_
      refine zv_c1 ht rfl rfl ?_
      refine zv_gl (st' := [.ref 1618, .int lc]) ht rfl hF rfl rfl rfl ?_
      refine zv_c1 ht rfl rfl ?_
      refine zv_iaE (j := e) (x := le) ht rfl rfl rfl rfl (zi_natE (a := e) rfl (by omega)) ⟨(Or.inl rfl), zi_inE (a := e) (n := 3000) rfl (by omega) (by omega)⟩ hle ?_
      have C19 : ∀ (pst18 : Outcome × zS → Prop), (pst18 (.returned (some (.int (zbo (((((¬ ((lc &&& (1 : Int32)) ≤ 0)) ∧ ((0 : Int32) < (le &&& (2 : Int32)))) ∨ ((¬ ((lc &&& (2 : Int32)) ≤ 0)) ∧ ((0 : Int32) < (le &&& (1 : Int32))))) ∨ ((¬ ((lc &&& (4 : Int32)) ≤ 0)) ∧ ((0 : Int32) < (le &&& (8 : Int32))))) ∨ ((¬ ((lc &&& (8 : Int32)) ≤ 0)) ∧ (¬ ((le &&& (4 : Int32)) ≤ 0))))))), S)) → zCall (d - 1) 148 [.int lc, .int le] S pst18 := by
        intro pst18 k41
        have ht20 : ztab 148 = ztb148 := rfl
        show zEv (d - 1) 148 0 [.int lc, .int le] [] S pst18
        refine zv_c1 ht20 rfl rfl (zv_c1 ht20 rfl rfl ?_)
        refine zv_c1 (st' := [.int (lc &&& (1 : Int32))]) (S' := S) ht20 rfl rfl ?_
        have J39 : zEv (d - 1) 148 55 [.retAddr 0, .retAddr 0] [.int (zbo (((((¬ ((lc &&& (1 : Int32)) ≤ 0)) ∧ ((0 : Int32) < (le &&& (2 : Int32)))) ∨ ((¬ ((lc &&& (2 : Int32)) ≤ 0)) ∧ ((0 : Int32) < (le &&& (1 : Int32))))) ∨ ((¬ ((lc &&& (4 : Int32)) ≤ 0)) ∧ ((0 : Int32) < (le &&& (8 : Int32))))) ∨ ((¬ ((lc &&& (8 : Int32)) ≤ 0)) ∧ (¬ ((le &&& (4 : Int32)) ≤ 0)))))] S pst18 := by
          exact zv_rc ht20 rfl rfl rfl rfl zbo_rng k41
        have J37 : (((((¬ ((lc &&& (1 : Int32)) ≤ 0)) ∧ ((0 : Int32) < (le &&& (2 : Int32)))) ∨ ((¬ ((lc &&& (2 : Int32)) ≤ 0)) ∧ ((0 : Int32) < (le &&& (1 : Int32))))) ∨ ((¬ ((lc &&& (4 : Int32)) ≤ 0)) ∧ ((0 : Int32) < (le &&& (8 : Int32))))) ∨ ((¬ ((lc &&& (8 : Int32)) ≤ 0)) ∧ (¬ ((le &&& (4 : Int32)) ≤ 0)))) → zEv (d - 1) 148 50 [.retAddr 0, .retAddr 0] [] S pst18 := by
          intro b38
          refine zv_c1 ht20 rfl rfl (zv_c1 ht20 rfl rfl ?_)
          exact (zv_sub (zz := zbo (((((¬ ((lc &&& (1 : Int32)) ≤ 0)) ∧ ((0 : Int32) < (le &&& (2 : Int32)))) ∨ ((¬ ((lc &&& (2 : Int32)) ≤ 0)) ∧ ((0 : Int32) < (le &&& (1 : Int32))))) ∨ ((¬ ((lc &&& (4 : Int32)) ≤ 0)) ∧ ((0 : Int32) < (le &&& (8 : Int32))))) ∨ ((¬ ((lc &&& (8 : Int32)) ≤ 0)) ∧ (¬ ((le &&& (4 : Int32)) ≤ 0))))) (zy := 1) (p := fun zz => zEv (d - 1) 148 55 [.retAddr 0, .retAddr 0] [.int zz] S pst18) (zbo_pos b38) J39)
        have J23 : (((lc &&& (1 : Int32)) ≤ 0) ∨ (¬ ((0 : Int32) < (le &&& (2 : Int32))))) → zEv (d - 1) 148 12 [.int lc, .int le] [] S pst18 := by
          intro b24
          refine zv_c1 ht20 rfl rfl (zv_c1 ht20 rfl rfl ?_)
          refine zv_c1 (st' := [.int (lc &&& (2 : Int32))]) (S' := S) ht20 rfl rfl ?_
          have J27 : (((lc &&& (2 : Int32)) ≤ 0) ∨ (¬ ((0 : Int32) < (le &&& (1 : Int32))))) → zEv (d - 1) 148 24 [.int lc, .int le] [] S pst18 := by
            intro b28
            refine zv_c1 ht20 rfl rfl (zv_c1 ht20 rfl rfl ?_)
            refine zv_c1 (st' := [.int (lc &&& (4 : Int32))]) (S' := S) ht20 rfl rfl ?_
            have J31 : (((lc &&& (4 : Int32)) ≤ 0) ∨ (¬ ((0 : Int32) < (le &&& (8 : Int32))))) → zEv (d - 1) 148 37 [.int lc, .int le] [] S pst18 := by
              intro b32
              refine zv_c1 ht20 rfl rfl (zv_c1 ht20 rfl rfl ?_)
              refine zv_c1 (st' := [.int (lc &&& (8 : Int32))]) (S' := S) ht20 rfl rfl ?_
              have J35 : (((lc &&& (8 : Int32)) ≤ 0) ∨ ((le &&& (4 : Int32)) ≤ 0)) → zEv (d - 1) 148 54 [.retAddr 0, .retAddr 0] [] S pst18 := by
                intro b36
                refine zv_c1 ht20 rfl rfl ?_
                exact (zv_sub (zz := zbo (((((¬ ((lc &&& (1 : Int32)) ≤ 0)) ∧ ((0 : Int32) < (le &&& (2 : Int32)))) ∨ ((¬ ((lc &&& (2 : Int32)) ≤ 0)) ∧ ((0 : Int32) < (le &&& (1 : Int32))))) ∨ ((¬ ((lc &&& (4 : Int32)) ≤ 0)) ∧ ((0 : Int32) < (le &&& (8 : Int32))))) ∨ ((¬ ((lc &&& (8 : Int32)) ≤ 0)) ∧ (¬ ((le &&& (4 : Int32)) ≤ 0))))) (zy := 0) (p := fun zz => zEv (d - 1) 148 55 [.retAddr 0, .retAddr 0] [.int zz] S pst18) (zbo_neg (b17.elim (fun y1 => (b24.elim (fun y2 => (b28.elim (fun y3 => (b32.elim (fun y4 => (b36.elim (fun y5 => (fun h => h.elim (fun h => h.elim (fun h => h.elim (fun h => (fun h => h y2) h.1) (fun h => (fun h => h y3) h.1)) (fun h => (fun h => h y4) h.1)) (fun h => (fun h => h y5) h.1))) (fun y5 => (fun h => h.elim (fun h => h.elim (fun h => h.elim (fun h => (fun h => h y2) h.1) (fun h => (fun h => h y3) h.1)) (fun h => (fun h => h y4) h.1)) (fun h => (fun h => h y5) h.2))))) (fun y4 => (b36.elim (fun y5 => (fun h => h.elim (fun h => h.elim (fun h => h.elim (fun h => (fun h => h y2) h.1) (fun h => (fun h => h y3) h.1)) (fun h => y4 h.2)) (fun h => (fun h => h y5) h.1))) (fun y5 => (fun h => h.elim (fun h => h.elim (fun h => h.elim (fun h => (fun h => h y2) h.1) (fun h => (fun h => h y3) h.1)) (fun h => y4 h.2)) (fun h => (fun h => h y5) h.2))))))) (fun y3 => (b32.elim (fun y4 => (b36.elim (fun y5 => (fun h => h.elim (fun h => h.elim (fun h => h.elim (fun h => (fun h => h y2) h.1) (fun h => y3 h.2)) (fun h => (fun h => h y4) h.1)) (fun h => (fun h => h y5) h.1))) (fun y5 => (fun h => h.elim (fun h => h.elim (fun h => h.elim (fun h => (fun h => h y2) h.1) (fun h => y3 h.2)) (fun h => (fun h => h y4) h.1)) (fun h => (fun h => h y5) h.2))))) (fun y4 => (b36.elim (fun y5 => (fun h => h.elim (fun h => h.elim (fun h => h.elim (fun h => (fun h => h y2) h.1) (fun h => y3 h.2)) (fun h => y4 h.2)) (fun h => (fun h => h y5) h.1))) (fun y5 => (fun h => h.elim (fun h => h.elim (fun h => h.elim (fun h => (fun h => h y2) h.1) (fun h => y3 h.2)) (fun h => y4 h.2)) (fun h => (fun h => h y5) h.2))))))))) (fun y2 => (b28.elim (fun y3 => (b32.elim (fun y4 => (b36.elim (fun y5 => (fun h => h.elim (fun h => h.elim (fun h => h.elim (fun h => y2 h.2) (fun h => (fun h => h y3) h.1)) (fun h => (fun h => h y4) h.1)) (fun h => (fun h => h y5) h.1))) (fun y5 => (fun h => h.elim (fun h => h.elim (fun h => h.elim (fun h => y2 h.2) (fun h => (fun h => h y3) h.1)) (fun h => (fun h => h y4) h.1)) (fun h => (fun h => h y5) h.2))))) (fun y4 => (b36.elim (fun y5 => (fun h => h.elim (fun h => h.elim (fun h => h.elim (fun h => y2 h.2) (fun h => (fun h => h y3) h.1)) (fun h => y4 h.2)) (fun h => (fun h => h y5) h.1))) (fun y5 => (fun h => h.elim (fun h => h.elim (fun h => h.elim (fun h => y2 h.2) (fun h => (fun h => h y3) h.1)) (fun h => y4 h.2)) (fun h => (fun h => h y5) h.2))))))) (fun y3 => (b32.elim (fun y4 => (b36.elim (fun y5 => (fun h => h.elim (fun h => h.elim (fun h => h.elim (fun h => y2 h.2) (fun h => y3 h.2)) (fun h => (fun h => h y4) h.1)) (fun h => (fun h => h y5) h.1))) (fun y5 => (fun h => h.elim (fun h => h.elim (fun h => h.elim (fun h => y2 h.2) (fun h => y3 h.2)) (fun h => (fun h => h y4) h.1)) (fun h => (fun h => h y5) h.2))))) (fun y4 => (b36.elim (fun y5 => (fun h => h.elim (fun h => h.elim (fun h => h.elim (fun h => y2 h.2) (fun h => y3 h.2)) (fun h => y4 h.2)) (fun h => (fun h => h y5) h.1))) (fun y5 => (fun h => h.elim (fun h => h.elim (fun h => h.elim (fun h => y2 h.2) (fun h => y3 h.2)) (fun h => y4 h.2)) (fun h => (fun h => h y5) h.2))))))))))) (fun y1 => (b24.elim (fun y2 => (b28.elim (fun y3 => (b32.elim (fun y4 => (b36.elim (fun y5 => (fun h => h.elim (fun h => h.elim (fun h => h.elim (fun h => (fun h => h y2) h.1) (fun h => (fun h => h y3) h.1)) (fun h => (fun h => h y4) h.1)) (fun h => (fun h => h y5) h.1))) (fun y5 => (fun h => h.elim (fun h => h.elim (fun h => h.elim (fun h => (fun h => h y2) h.1) (fun h => (fun h => h y3) h.1)) (fun h => (fun h => h y4) h.1)) (fun h => (fun h => h y5) h.2))))) (fun y4 => (b36.elim (fun y5 => (fun h => h.elim (fun h => h.elim (fun h => h.elim (fun h => (fun h => h y2) h.1) (fun h => (fun h => h y3) h.1)) (fun h => y4 h.2)) (fun h => (fun h => h y5) h.1))) (fun y5 => (fun h => h.elim (fun h => h.elim (fun h => h.elim (fun h => (fun h => h y2) h.1) (fun h => (fun h => h y3) h.1)) (fun h => y4 h.2)) (fun h => (fun h => h y5) h.2))))))) (fun y3 => (b32.elim (fun y4 => (b36.elim (fun y5 => (fun h => h.elim (fun h => h.elim (fun h => h.elim (fun h => (fun h => h y2) h.1) (fun h => y3 h.2)) (fun h => (fun h => h y4) h.1)) (fun h => (fun h => h y5) h.1))) (fun y5 => (fun h => h.elim (fun h => h.elim (fun h => h.elim (fun h => (fun h => h y2) h.1) (fun h => y3 h.2)) (fun h => (fun h => h y4) h.1)) (fun h => (fun h => h y5) h.2))))) (fun y4 => (b36.elim (fun y5 => (fun h => h.elim (fun h => h.elim (fun h => h.elim (fun h => (fun h => h y2) h.1) (fun h => y3 h.2)) (fun h => y4 h.2)) (fun h => (fun h => h y5) h.1))) (fun y5 => (fun h => h.elim (fun h => h.elim (fun h => h.elim (fun h => (fun h => h y2) h.1) (fun h => y3 h.2)) (fun h => y4 h.2)) (fun h => (fun h => h y5) h.2))))))))) (fun y2 => (b28.elim (fun y3 => (b32.elim (fun y4 => (b36.elim (fun y5 => (fun h => h.elim (fun h => h.elim (fun h => h.elim (fun h => y2 h.2) (fun h => (fun h => h y3) h.1)) (fun h => (fun h => h y4) h.1)) (fun h => (fun h => h y5) h.1))) (fun y5 => (fun h => h.elim (fun h => h.elim (fun h => h.elim (fun h => y2 h.2) (fun h => (fun h => h y3) h.1)) (fun h => (fun h => h y4) h.1)) (fun h => (fun h => h y5) h.2))))) (fun y4 => (b36.elim (fun y5 => (fun h => h.elim (fun h => h.elim (fun h => h.elim (fun h => y2 h.2) (fun h => (fun h => h y3) h.1)) (fun h => y4 h.2)) (fun h => (fun h => h y5) h.1))) (fun y5 => (fun h => h.elim (fun h => h.elim (fun h => h.elim (fun h => y2 h.2) (fun h => (fun h => h y3) h.1)) (fun h => y4 h.2)) (fun h => (fun h => h y5) h.2))))))) (fun y3 => (b32.elim (fun y4 => (b36.elim (fun y5 => (fun h => h.elim (fun h => h.elim (fun h => h.elim (fun h => y2 h.2) (fun h => y3 h.2)) (fun h => (fun h => h y4) h.1)) (fun h => (fun h => h y5) h.1))) (fun y5 => (fun h => h.elim (fun h => h.elim (fun h => h.elim (fun h => y2 h.2) (fun h => y3 h.2)) (fun h => (fun h => h y4) h.1)) (fun h => (fun h => h y5) h.2))))) (fun y4 => (b36.elim (fun y5 => (fun h => h.elim (fun h => h.elim (fun h => h.elim (fun h => y2 h.2) (fun h => y3 h.2)) (fun h => y4 h.2)) (fun h => (fun h => h y5) h.1))) (fun y5 => (fun h => h.elim (fun h => h.elim (fun h => h.elim (fun h => y2 h.2) (fun h => y3 h.2)) (fun h => y4 h.2)) (fun h => (fun h => h y5) h.2))))))))))))) J39)
              refine zv_br ht20 rfl rfl rfl (fun b33 => ?_) (fun b33 => ?_)
              · exact zEv.wk (L := [.retAddr 0, .retAddr 0]) (L' := [.int lc, .int le]) (And.intro (Or.inr rfl) (And.intro (Or.inr rfl) trivial)) (J35 (Or.inl b33))
              · refine zv_c1 ht20 rfl rfl (zv_c1 ht20 rfl rfl ?_)
                refine zv_c1 (st' := [.int (le &&& (4 : Int32))]) (S' := S) ht20 rfl rfl ?_
                refine zv_br ht20 rfl rfl rfl (fun b34 => ?_) (fun b34 => ?_)
                · exact zEv.wk (L := [.retAddr 0, .retAddr 0]) (L' := [.int lc, .int le]) (And.intro (Or.inr rfl) (And.intro (Or.inr rfl) trivial)) (J35 (Or.inr b34))
                · exact zEv.wk (L := [.retAddr 0, .retAddr 0]) (L' := [.int lc, .int le]) (And.intro (Or.inr rfl) (And.intro (Or.inr rfl) trivial)) (J37 (Or.inr ⟨b33, b34⟩))
            refine zv_br ht20 rfl rfl rfl (fun b29 => ?_) (fun b29 => ?_)
            · exact (J31 (Or.inl b29))
            · refine zv_c1 ht20 rfl rfl (zv_c1 ht20 rfl rfl ?_)
              refine zv_c1 (st' := [.int (le &&& (8 : Int32))]) (S' := S) ht20 rfl rfl ?_
              refine zv_br ht20 rfl rfl rfl (fun b30 => ?_) (fun b30 => ?_)
              · exact zEv.wk (L := [.retAddr 0, .retAddr 0]) (L' := [.int lc, .int le]) (And.intro (Or.inr rfl) (And.intro (Or.inr rfl) trivial)) (J37 (Or.inl (Or.inr ⟨b29, b30⟩)))
              · exact (J31 (Or.inr b30))
          refine zv_br ht20 rfl rfl rfl (fun b25 => ?_) (fun b25 => ?_)
          · exact (J27 (Or.inl b25))
          · refine zv_c1 ht20 rfl rfl (zv_c1 ht20 rfl rfl ?_)
            refine zv_c1 (st' := [.int (le &&& (1 : Int32))]) (S' := S) ht20 rfl rfl ?_
            refine zv_br ht20 rfl rfl rfl (fun b26 => ?_) (fun b26 => ?_)
            · exact zEv.wk (L := [.retAddr 0, .retAddr 0]) (L' := [.int lc, .int le]) (And.intro (Or.inr rfl) (And.intro (Or.inr rfl) trivial)) (J37 (Or.inl (Or.inl (Or.inr ⟨b25, b26⟩))))
            · exact (J27 (Or.inr b26))
        refine zv_br ht20 rfl rfl rfl (fun b21 => ?_) (fun b21 => ?_)
        · exact (J23 (Or.inl b21))
        · refine zv_c1 ht20 rfl rfl (zv_c1 ht20 rfl rfl ?_)
          refine zv_c1 (st' := [.int (le &&& (2 : Int32))]) (S' := S) ht20 rfl rfl ?_
          refine zv_br ht20 rfl rfl rfl (fun b22 => ?_) (fun b22 => ?_)
          · exact zEv.wk (L := [.retAddr 0, .retAddr 0]) (L' := [.int lc, .int le]) (And.intro (Or.inr rfl) (And.intro (Or.inr rfl) trivial)) (J37 (Or.inl (Or.inl (Or.inl ⟨b21, b22⟩))))
          · exact (J23 (Or.inr b22))
      refine zv_cl ht rfl rfl rfl rfl (by omega) (Nat.le_of_ble_eq_true rfl) (C19 _ ?_)
      show zEv d 146 225 [.ref 1592, .int (Int32.ofNat n), .int (Int32.ofNat k), .int (Int32.ofNat c), .int (Int32.ofNat e), .int (zbo ((((k = 11) ∨ (k = 12)) ∨ ((k = 17) ∧ (1 < v))) ∨ ((k = 10) ∧ (c = c1) ∧ (e = c2))))] [.int (zbo (((((¬ ((lc &&& (1 : Int32)) ≤ 0)) ∧ ((0 : Int32) < (le &&& (2 : Int32)))) ∨ ((¬ ((lc &&& (2 : Int32)) ≤ 0)) ∧ ((0 : Int32) < (le &&& (1 : Int32))))) ∨ ((¬ ((lc &&& (4 : Int32)) ≤ 0)) ∧ ((0 : Int32) < (le &&& (8 : Int32))))) ∨ ((¬ ((lc &&& (8 : Int32)) ≤ 0)) ∧ (¬ ((le &&& (4 : Int32)) ≤ 0)))))] S post
      refine zv_br ht rfl rfl rfl (fun b42 => ?_) (fun b42 => ?_)
      · replace b42 : ¬ (((((¬ ((lc &&& (1 : Int32)) ≤ 0)) ∧ ((0 : Int32) < (le &&& (2 : Int32)))) ∨ ((¬ ((lc &&& (2 : Int32)) ≤ 0)) ∧ ((0 : Int32) < (le &&& (1 : Int32))))) ∨ ((¬ ((lc &&& (4 : Int32)) ≤ 0)) ∧ ((0 : Int32) < (le &&& (8 : Int32))))) ∨ ((¬ ((lc &&& (8 : Int32)) ≤ 0)) ∧ (¬ ((le &&& (4 : Int32)) ≤ 0)))) := (zbo_eq0 : (zbo (((((¬ ((lc &&& (1 : Int32)) ≤ 0)) ∧ ((0 : Int32) < (le &&& (2 : Int32)))) ∨ ((¬ ((lc &&& (2 : Int32)) ≤ 0)) ∧ ((0 : Int32) < (le &&& (1 : Int32))))) ∨ ((¬ ((lc &&& (4 : Int32)) ≤ 0)) ∧ ((0 : Int32) < (le &&& (8 : Int32))))) ∨ ((¬ ((lc &&& (8 : Int32)) ≤ 0)) ∧ (¬ ((le &&& (4 : Int32)) ≤ 0))))) = 0 ↔ ¬ (((((¬ ((lc &&& (1 : Int32)) ≤ 0)) ∧ ((0 : Int32) < (le &&& (2 : Int32)))) ∨ ((¬ ((lc &&& (2 : Int32)) ≤ 0)) ∧ ((0 : Int32) < (le &&& (1 : Int32))))) ∨ ((¬ ((lc &&& (4 : Int32)) ≤ 0)) ∧ ((0 : Int32) < (le &&& (8 : Int32))))) ∨ ((¬ ((lc &&& (8 : Int32)) ≤ 0)) ∧ (¬ ((le &&& (4 : Int32)) ≤ 0))))).mp b42
        exact zEv.wk (L := [.ref 1592, .int (Int32.ofNat n), .int (Int32.ofNat k), .int (Int32.ofNat c), .int (Int32.ofNat e), .retAddr 0]) (L' := [.ref 1592, .int (Int32.ofNat n), .int (Int32.ofNat k), .int (Int32.ofNat c), .int (Int32.ofNat e), .int (zbo ((((k = 11) ∨ (k = 12)) ∨ ((k = 17) ∧ (1 < v))) ∨ ((k = 10) ∧ (c = c1) ∧ (e = c2))))]) (And.intro (Or.inl rfl) (And.intro (Or.inl rfl) (And.intro (Or.inl rfl) (And.intro (Or.inl rfl) (And.intro (Or.inl rfl) (And.intro (Or.inr rfl) trivial)))))) (J43 (Or.inr b42))
      · replace b42 : ((((¬ ((lc &&& (1 : Int32)) ≤ 0)) ∧ ((0 : Int32) < (le &&& (2 : Int32)))) ∨ ((¬ ((lc &&& (2 : Int32)) ≤ 0)) ∧ ((0 : Int32) < (le &&& (1 : Int32))))) ∨ ((¬ ((lc &&& (4 : Int32)) ≤ 0)) ∧ ((0 : Int32) < (le &&& (8 : Int32))))) ∨ ((¬ ((lc &&& (8 : Int32)) ≤ 0)) ∧ (¬ ((le &&& (4 : Int32)) ≤ 0))) := Classical.byContradiction (fun h => b42 ((zbo_eq0 : (zbo (((((¬ ((lc &&& (1 : Int32)) ≤ 0)) ∧ ((0 : Int32) < (le &&& (2 : Int32)))) ∨ ((¬ ((lc &&& (2 : Int32)) ≤ 0)) ∧ ((0 : Int32) < (le &&& (1 : Int32))))) ∨ ((¬ ((lc &&& (4 : Int32)) ≤ 0)) ∧ ((0 : Int32) < (le &&& (8 : Int32))))) ∨ ((¬ ((lc &&& (8 : Int32)) ≤ 0)) ∧ (¬ ((le &&& (4 : Int32)) ≤ 0))))) = 0 ↔ ¬ (((((¬ ((lc &&& (1 : Int32)) ≤ 0)) ∧ ((0 : Int32) < (le &&& (2 : Int32)))) ∨ ((¬ ((lc &&& (2 : Int32)) ≤ 0)) ∧ ((0 : Int32) < (le &&& (1 : Int32))))) ∨ ((¬ ((lc &&& (4 : Int32)) ≤ 0)) ∧ ((0 : Int32) < (le &&& (8 : Int32))))) ∨ ((¬ ((lc &&& (8 : Int32)) ≤ 0)) ∧ (¬ ((le &&& (4 : Int32)) ≤ 0))))).mpr h))
        refine zv_c1 ht rfl rfl ?_
        refine zv_gl (st' := [.ref 1617]) ht rfl hF rfl rfl rfl ?_
        refine zv_c1 ht rfl rfl (zv_c1 ht rfl rfl ?_)
        refine zv_iaE (j := n) (x := fn) ht rfl rfl rfl rfl (zi_natE (a := n) rfl (by omega)) ⟨(Or.inl rfl), zi_inE (a := n) (n := 3000) rfl (by omega) (by omega)⟩ hfn ?_
        refine zv_c1 ht rfl rfl ?_
        refine zv_c1 (st' := [.int (fn ||| (512 : Int32)), .int (Int32.ofNat n), .ref 1617]) (S' := S) ht rfl rfl ?_
        refine zv_is (j := n) (x := fn ||| (512 : Int32)) ht rfl rfl rfl rfl (zi_natE (a := n) rfl (by omega)) ⟨rfl, zi_inE (a := n) (n := 3000) rfl (by omega) (by omega)⟩ ?_
        refine zv_c1 ht rfl rfl ?_
        refine zv_gl (st' := [.ref 1613]) ht rfl hF rfl rfl rfl ?_
        refine zv_c1 ht rfl rfl ?_
        refine zv_iaE (j := e) (x := ne) ht rfl rfl rfl rfl (zi_natE (a := e) rfl (by omega)) ⟨(Or.inl rfl), zi_inE (a := e) (n := 3000) rfl (by omega) (by omega)⟩ hne ?_
        refine zv_c2 (L' := [.ref 1592, .int (Int32.ofNat n), .int (Int32.ofNat k), .int (Int32.ofNat c), .int ne, .int (zbo ((((k = 11) ∨ (k = 12)) ∨ ((k = 17) ∧ (1 < v))) ∨ ((k = 10) ∧ (c = c1) ∧ (e = c2))))]) ht rfl rfl ?_
        refine zv_c1 ht rfl rfl ?_
        exact zEv.wk (L := [.ref 1592, .int (Int32.ofNat n), .int (Int32.ofNat k), .int (Int32.ofNat c), .int ne, .retAddr 0]) (L' := [.ref 1592, .int (Int32.ofNat n), .int (Int32.ofNat k), .int (Int32.ofNat c), .int ne, .int (zbo ((((k = 11) ∨ (k = 12)) ∨ ((k = 17) ∧ (1 < v))) ∨ ((k = 10) ∧ (c = c1) ∧ (e = c2))))]) (And.intro (Or.inl rfl) (And.intro (Or.inl rfl) (And.intro (Or.inl rfl) (And.intro (Or.inl rfl) (And.intro (Or.inl rfl) (And.intro (Or.inr rfl) trivial)))))) (h2 b17 b42)
  have J13 : ((((k = 11) ∨ (k = 12)) ∨ ((k = 17) ∧ (1 < v))) ∨ ((k = 10) ∧ (c = c1) ∧ (e = c2))) → zEv d 146 197 [.ref 1592, .int (Int32.ofNat n), .int (Int32.ofNat k), .int (Int32.ofNat c), .int (Int32.ofNat e), .retAddr 0] [] S post := by
    intro b14
    refine zv_c1 ht rfl rfl (zv_c1 ht rfl rfl ?_)
    exact (zv_sub (zz := zbo ((((k = 11) ∨ (k = 12)) ∨ ((k = 17) ∧ (1 < v))) ∨ ((k = 10) ∧ (c = c1) ∧ (e = c2)))) (zy := 1) (p := fun zz => zEv d 146 202 [.ref 1592, .int (Int32.ofNat n), .int (Int32.ofNat k), .int (Int32.ofNat c), .int (Int32.ofNat e), .retAddr 0] [.int zz] S post) (zbo_pos b14) J15)
  refine zv_br ht rfl rfl rfl (fun b2 => ?_) (fun b2 => ?_)
  · replace b2 : k = 11 := (zi_eqE (a := k) (b := 11) rfl rfl (by omega) (by omega)).mp b2
    exact (J13 (Or.inl (Or.inl (Or.inl b2))))
  · replace b2 : ¬ (k = 11) := fun h => b2 ((zi_eqE (a := k) (b := 11) rfl rfl (by omega) (by omega)).mpr h)
    refine zv_c1 ht rfl rfl (zv_c1 ht rfl rfl ?_)
    refine zv_br ht rfl rfl rfl (fun b3 => ?_) (fun b3 => ?_)
    · replace b3 : k = 12 := (zi_eqE (a := k) (b := 12) rfl rfl (by omega) (by omega)).mp b3
      exact (J13 (Or.inl (Or.inl (Or.inr b3))))
    · replace b3 : ¬ (k = 12) := fun h => b3 ((zi_eqE (a := k) (b := 12) rfl rfl (by omega) (by omega)).mpr h)
      refine zv_c1 ht rfl rfl (zv_c1 ht rfl rfl ?_)
      have J6 : ((¬ (k = 17)) ∨ (¬ (1 < v))) → zEv d 146 170 [.ref 1592, .int (Int32.ofNat n), .int (Int32.ofNat k), .int (Int32.ofNat c), .int (Int32.ofNat e), .retAddr 0] [] S post := by
        intro b7
        refine zv_c1 ht rfl rfl (zv_c1 ht rfl rfl ?_)
        have J11 : ((¬ (k = 10)) ∨ (¬ (c = c1)) ∨ (¬ (e = c2))) → zEv d 146 201 [.ref 1592, .int (Int32.ofNat n), .int (Int32.ofNat k), .int (Int32.ofNat c), .int (Int32.ofNat e), .retAddr 0] [] S post := by
          intro b12
          refine zv_c1 ht rfl rfl ?_
          exact (zv_sub (zz := zbo ((((k = 11) ∨ (k = 12)) ∨ ((k = 17) ∧ (1 < v))) ∨ ((k = 10) ∧ (c = c1) ∧ (e = c2)))) (zy := 0) (p := fun zz => zEv d 146 202 [.ref 1592, .int (Int32.ofNat n), .int (Int32.ofNat k), .int (Int32.ofNat c), .int (Int32.ofNat e), .retAddr 0] [.int zz] S post) (zbo_neg (b7.elim (fun y1 => (b12.elim (fun y2 => (fun h => h.elim (fun h => h.elim (fun h => h.elim b2 b3) (fun h => y1 h.1)) (fun h => y2 h.1))) (fun y2 => (y2.elim (fun y3 => (fun h => h.elim (fun h => h.elim (fun h => h.elim b2 b3) (fun h => y1 h.1)) (fun h => (fun h => y3 h.1) h.2))) (fun y3 => (fun h => h.elim (fun h => h.elim (fun h => h.elim b2 b3) (fun h => y1 h.1)) (fun h => (fun h => y3 h.2) h.2))))))) (fun y1 => (b12.elim (fun y2 => (fun h => h.elim (fun h => h.elim (fun h => h.elim b2 b3) (fun h => y1 h.2)) (fun h => y2 h.1))) (fun y2 => (y2.elim (fun y3 => (fun h => h.elim (fun h => h.elim (fun h => h.elim b2 b3) (fun h => y1 h.2)) (fun h => (fun h => y3 h.1) h.2))) (fun y3 => (fun h => h.elim (fun h => h.elim (fun h => h.elim b2 b3) (fun h => y1 h.2)) (fun h => (fun h => y3 h.2) h.2))))))))) J15)
        refine zv_br ht rfl rfl rfl (fun b8 => ?_) (fun b8 => ?_)
        · replace b8 : ¬ (k = 10) := fun h => b8 ((zi_eqE (a := k) (b := 10) rfl rfl (by omega) (by omega)).mpr h)
          exact (J11 (Or.inl b8))
        · replace b8 : k = 10 := (zi_eqE (a := k) (b := 10) rfl rfl (by omega) (by omega)).mp (Classical.not_not.mp b8)
          refine zv_c1 ht rfl rfl (zv_c1 ht rfl rfl ?_)
          refine zv_gl (st' := [.ref 1612, .int (Int32.ofNat c)]) ht rfl hF rfl rfl rfl ?_
          refine zv_c1 ht rfl rfl ?_
          refine zv_iaE (j := n) (x := Int32.ofNat c1) ht rfl rfl rfl rfl (zi_natE (a := n) rfl (by omega)) ⟨(Or.inl rfl), zi_inE (a := n) (n := 3000) rfl (by omega) (by omega)⟩ hc0 ?_
          refine zv_br ht rfl rfl rfl (fun b9 => ?_) (fun b9 => ?_)
          · replace b9 : ¬ (c = c1) := fun h => b9 ((zi_eqE (a := c) (b := c1) rfl rfl (by omega) (by omega)).mpr h)
            exact (J11 (Or.inr (Or.inl b9)))
          · replace b9 : c = c1 := (zi_eqE (a := c) (b := c1) rfl rfl (by omega) (by omega)).mp (Classical.not_not.mp b9)
            refine zv_c1 ht rfl rfl (zv_c1 ht rfl rfl ?_)
            refine zv_gl (st' := [.ref 1613, .int (Int32.ofNat e)]) ht rfl hF rfl rfl rfl ?_
            refine zv_c1 ht rfl rfl ?_
            refine zv_iaE (j := c) (x := Int32.ofNat c2) ht rfl rfl rfl rfl (zi_natE (a := c) rfl (by omega)) ⟨(Or.inl rfl), zi_inE (a := c) (n := 3000) rfl (by omega) (by omega)⟩ hnx ?_
            refine zv_br ht rfl rfl rfl (fun b10 => ?_) (fun b10 => ?_)
            · replace b10 : ¬ (e = c2) := fun h => b10 ((zi_eqE (a := e) (b := c2) rfl rfl (by omega) (by omega)).mpr h)
              exact (J11 (Or.inr (Or.inr b10)))
            · replace b10 : e = c2 := (zi_eqE (a := e) (b := c2) rfl rfl (by omega) (by omega)).mp (Classical.not_not.mp b10)
              exact (J13 (Or.inr ⟨b8, ⟨b9, b10⟩⟩))
      refine zv_br ht rfl rfl rfl (fun b4 => ?_) (fun b4 => ?_)
      · replace b4 : ¬ (k = 17) := fun h => b4 ((zi_eqE (a := k) (b := 17) rfl rfl (by omega) (by omega)).mpr h)
        exact (J6 (Or.inl b4))
      · replace b4 : k = 17 := (zi_eqE (a := k) (b := 17) rfl rfl (by omega) (by omega)).mp (Classical.not_not.mp b4)
        refine zv_c1 ht rfl rfl ?_
        refine zv_gl (st' := [.ref 1611]) ht rfl hF rfl rfl rfl ?_
        refine zv_c1 ht rfl rfl ?_
        refine zv_iaE (j := n) (x := Int32.ofNat v) ht rfl rfl rfl rfl (zi_natE (a := n) rfl (by omega)) ⟨(Or.inl rfl), zi_inE (a := n) (n := 3000) rfl (by omega) (by omega)⟩ hv ?_
        refine zv_c1 ht rfl rfl ?_
        refine zv_br ht rfl rfl rfl (fun b5 => ?_) (fun b5 => ?_)
        · replace b5 : 1 < v := (zi_ltE (a := 1) (b := v) rfl rfl (by omega) (by omega)).mp b5
          exact (J13 (Or.inl (Or.inr ⟨b4, b5⟩)))
        · replace b5 : ¬ (1 < v) := fun h => b5 ((zi_ltE (a := 1) (b := v) rfl rfl (by omega) (by omega)).mpr h)
          exact (J6 (Or.inr b5))

theorem lt4 {d : Nat} {S : zS} (hF : zFin true S) (n k c : Nat) (nx : Int32)  (hn : n < 3000) (hc : c < 3000) (hk : k < 100) (hnx : gA S 1613 c = nx) {post : Outcome × zS → Prop} (h1 : zEv d 146 75 [.ref 1592, .int (Int32.ofNat n), .int (Int32.ofNat k), .int nx, .retAddr 0, .retAddr 0] [] S post) : zEv d 146 136 [.ref 1592, .int (Int32.ofNat n), .int (Int32.ofNat k), .int (Int32.ofNat c), .int (-1), .retAddr 0] [] S post := by
  have ht : ztab 146 = ztb146 := rfl
  refine zv_c1 ht rfl rfl (zv_c1 ht rfl rfl ?_)
  refine zv_br ht rfl rfl rfl (fun _ => ?_) (fun h => absurd (by decide) h)
  refine zv_c1 ht rfl rfl ?_
  refine zv_gl (st' := [.ref 1613]) ht rfl hF rfl rfl rfl ?_
  refine zv_c1 ht rfl rfl ?_
  refine zv_iaE (j := c) (x := nx) ht rfl rfl rfl rfl (zi_natE (a := c) rfl (by omega)) ⟨(Or.inl rfl), zi_inE (a := c) (n := 3000) rfl (by omega) (by omega)⟩ hnx ?_
  refine zv_c2 (L' := [.ref 1592, .int (Int32.ofNat n), .int (Int32.ofNat k), .int nx, .int (-1), .retAddr 0]) ht rfl rfl ?_
  refine zv_c1 ht rfl rfl ?_
  exact zEv.wk (L := [.ref 1592, .int (Int32.ofNat n), .int (Int32.ofNat k), .int nx, .retAddr 0, .retAddr 0]) (L' := [.ref 1592, .int (Int32.ofNat n), .int (Int32.ofNat k), .int nx, .int (-1), .retAddr 0]) (And.intro (Or.inl rfl) (And.intro (Or.inl rfl) (And.intro (Or.inl rfl) (And.intro (Or.inl rfl) (And.intro (Or.inr rfl) (And.intro (Or.inl rfl) trivial)))))) h1

theorem f512 (f : Int32) : f &&& (512 : Int32) = zit (bt 9 f) 512 0 := by
  by_cases h : bt 9 f
  · rw [zit_pos h]; exact is_512.mpr h
  · rw [zit_neg h]
    apply Int32.toBitVec_inj.mp
    apply BitVec.eq_of_getLsbD_eq
    intro i hi
    rw [Int32.toBitVec_and, BitVec.getLsbD_and]
    have h5 : ∀ i, i < 32 → (512 : Int32).toBitVec.getLsbD i = decide (i = 9) := by decide
    have h6 : ∀ i, i < 32 → (0 : Int32).toBitVec.getLsbD i = false := by decide
    rw [h5 i hi, h6 i hi]
    by_cases e : i = 9
    · subst e
      unfold bt at h
      rw [Bool.eq_false_iff.mpr h]
      rfl
    · simp [e]
theorem zf_or (F : Int32) (P Q : Prop) : (F ||| zit P 512 0) ||| zit Q 512 0 = F ||| zit (P ∨ Q) 512 0 := by
  rw [Int32.or_assoc]
  congr 1
  by_cases h : P
  · by_cases g : Q
    · rw [zit_pos h, zit_pos g, zit_pos (Or.inl h)]; decide
    · rw [zit_pos h, zit_neg g, zit_pos (Or.inl h)]; decide
  · by_cases g : Q
    · rw [zit_neg h, zit_pos g, zit_pos (Or.inr g)]; decide
    · rw [zit_neg h, zit_neg g, zit_neg (fun x => x.elim h g)]; decide
/-- what the walk over a node's parts keeps -/
def lkI (S : zS) (n : Nat) (F : Int32) (P : Prop) (lk : Int32) (S' : zS) : Prop := zTK [] [1617, 1618] S S' ∧ (∀ j, j ≠ n → gA S' 1617 j = gA S 1617 j ∧ gA S' 1618 j = gA S 1618 j) ∧ gA S' 1617 n = F ||| zit P 512 0 ∧ gA S' 1618 n = lk
theorem lkI.cg {S : zS} {n : Nat} {F lk : Int32} {P Q : Prop} {S' : zS} (h : lkI S n F P lk S') (e : P ↔ Q) : lkI S n F Q lk S' := by rw [← propext e]; exact h
theorem lkI.f {S : zS} {n : Nat} {F lk : Int32} {P : Prop} {S' : zS} (h : lkI S n F P lk S') (Q : Prop) : lkI S n F (P ∨ Q) lk (sA S' 1617 n (gA S' 1617 n ||| zit Q 512 0)) := by
  refine ⟨h.1.tr (zTK_sA (by decide)), fun j hj => ⟨(gA_sA_nj hj).trans (h.2.1 j hj).1, (h.2.1 j hj).2⟩, ?_, h.2.2.2⟩
  refine gA_sA_at.trans ?_
  rw [h.2.2.1, zf_or]
theorem lkI.l {S : zS} {n : Nat} {F lk : Int32} {P : Prop} {S' : zS} (h : lkI S n F P lk S') (x : Int32) : lkI S n F P x (sA S' 1618 n x) :=
  ⟨h.1.tr (zTK_sA (by decide)), fun j hj => ⟨(h.2.1 j hj).1, (gA_sA_nj hj).trans (h.2.1 j hj).2⟩, h.2.2.1, gA_sA_at⟩
theorem getD_mid {α : Type} (d0 : α) (l : List α) (x : α) (m : List α) (t : α) (r : List α) : (l ++ x :: (m ++ t :: r)).getD (l.length + 1 + m.length) d0 = t := by
  have : l ++ x :: (m ++ t :: r) = (l ++ x :: m) ++ t :: r := by simp
  rw [this, show l.length + 1 + m.length = (l ++ x :: m).length from by simp; omega]
  exact getD_pre _ _ _ _
section T4
variable {d : Nat} {post : Outcome × zS → Prop}
theorem lk_in {S : zS} (hF : zFin true S) (hd : 1 ≤ d) {n k v c c1 : Nat} {F lk : Int32} {l lp : List t3} {tc : t3} (hn : n < 3000) (hk : k < 100) (hc : c < 3000) (hc1 : c1 < 3000) (hv1 : v < 2147483648) (hv : gA S 1611 n = Int32.ofNat v) (hc0 : gA S 1612 n = Int32.ofNat c1) (hnc : n ≠ c) (hlc : gA S 1618 c = tc.2.2) (hpos : c = c1 ↔ lp.length = 0) {es0 : List Nat} (hch0 : mCh S (gA S 1613 c) es0) (hnd : es0.Nodup)
    (kk : ∀ S', lkI S n F (((∃ t ∈ lp ++ [tc], bt 9 t.2.1) ∨ ∃ i j, i < lp.length + 1 ∧ i < j ∧ j < l.length ∧ tog k v i j ∧ mxd (l.getD i t0).2.2 (l.getD j t0).2.2)) lk S' → zEv d 146 75 [.ref 1592, .int (Int32.ofNat n), .int (Int32.ofNat k), .int (gA S 1613 c), .retAddr 0, .retAddr 0] [] S' post) :
    ∀ (suf pre : List Nat) (ts tp : List t3) (e : Int32) (S' : zS), pre ++ suf = es0 → l = lp ++ tc :: (tp ++ ts) → pre.length = tp.length → mCh S e suf → chT S suf ts → n ∉ suf →
      lkI S n F ((∃ t ∈ lp ++ [tc], bt 9 t.2.1) ∨ ∃ i j, (i < lp.length ∨ (i = lp.length ∧ j < lp.length + 1 + tp.length)) ∧ i < j ∧ j < l.length ∧ tog k v i j ∧ mxd (l.getD i t0).2.2 (l.getD j t0).2.2) lk S' →
      zEv d 146 136 [.ref 1592, .int (Int32.ofNat n), .int (Int32.ofNat k), .int (Int32.ofNat c), .int e, .retAddr 0] [] S' post := by
  intro suf
  induction suf with
  | nil =>
    intro pre ts tp e S' e1 e2 e3 g1 g2 g3 hI
    cases ts with
    | cons => exact g2.elim
    | nil =>
      have g1 : e = -1 := g1
      subst g1
      have hl : l.length = lp.length + 1 + tp.length := by rw [e2]; simp; omega
      refine lt4 (S := S') (hI.1.fin hF) n k c (gA S 1613 c) hn hc hk (hI.1.A (by decide)) (kk S' (hI.cg ⟨fun x => ?_, fun x => ?_⟩))
      · rcases x with x | ⟨i, j, q1, q2, q3, q4⟩
        · exact Or.inl x
        · exact Or.inr ⟨i, j, by omega, q2, q3, q4⟩
      · rcases x with x | ⟨i, j, q1, q2, q3, q4⟩
        · exact Or.inl x
        · refine Or.inr ⟨i, j, ?_, q2, q3, q4⟩
          by_cases q : i < lp.length
          · exact Or.inl q
          · exact Or.inr ⟨by omega, by omega⟩
  | cons e0 suf ih =>
    intro pre ts tp e S' e1 e2 e3 g1 g2 g3 hI
    cases ts with
    | nil => exact g2.elim
    | cons t ts =>
      obtain ⟨rfl, he, g1⟩ := g1
      have hn2 : n ≠ e0 := fun x => g3 (by rw [x]; exact List.mem_cons_self)
      have hget : l.getD (lp.length + 1 + tp.length) t0 = t := by rw [e2]; exact getD_mid _ _ _ _ _ _
      have hgc : l.getD lp.length t0 = tc := by rw [e2]; exact getD_pre _ _ _ _
      have hjl : lp.length + 1 + tp.length < l.length := by rw [e2]; simp; omega
      -- the first of what stands behind c
      obtain ⟨c2, es1, hes⟩ : ∃ c2 es1, es0 = c2 :: es1 := by
        cases es0 with
        | nil => cases pre <;> cases e1
        | cons c2 es1 => exact ⟨c2, es1, rfl⟩
      have hc2 : gA S 1613 c = Int32.ofNat c2 ∧ c2 < 3000 := by rw [hes] at hch0; exact ⟨hch0.1, hch0.2.1⟩
      have hec : (e0 = c2 ↔ tp.length = 0) := by
        constructor
        · intro x
          cases pre with
          | nil => exact e3.symm
          | cons p0 pre =>
            exfalso
            rw [← e1] at hes hnd
            have h9 : p0 :: (pre ++ e0 :: suf) = c2 :: es1 := hes
            injection h9 with h10 h11
            have := (List.nodup_cons.mp hnd).1
            rw [h10, ← x] at this
            exact this (by simp)
        · intro x
          rw [x] at e3
          rw [List.length_eq_zero_iff.mp e3] at e1
          rw [← e1] at hes
          injection hes
      have htog : ((((k = 11) ∨ (k = 12)) ∨ ((k = 17) ∧ (1 < v))) ∨ ((k = 10) ∧ (c = c1) ∧ (e0 = c2))) ↔ tog k v lp.length (lp.length + 1 + tp.length) := by
        unfold tog
        rw [hpos, hec]
        constructor
        · rintro (((x | x) | x) | ⟨x, y, z⟩)
          · exact Or.inl x
          · exact Or.inr (Or.inl x)
          · exact Or.inr (Or.inr (Or.inl x))
          · exact Or.inr (Or.inr (Or.inr ⟨x, y, by omega⟩))
        · rintro (x | x | x | ⟨x, y, z⟩)
          · exact Or.inl (Or.inl (Or.inl x))
          · exact Or.inl (Or.inl (Or.inr x))
          · exact Or.inl (Or.inr x)
          · exact Or.inr ⟨x, y, by omega⟩
      have keep := fun Q (hQ : Q ↔ (tog k v lp.length (lp.length + 1 + tp.length) ∧ mxd tc.2.2 t.2.2)) (S2 : zS) (hI2 : lkI S n F (((∃ t ∈ lp ++ [tc], bt 9 t.2.1) ∨ ∃ i j, (i < lp.length ∨ (i = lp.length ∧ j < lp.length + 1 + tp.length)) ∧ i < j ∧ j < l.length ∧ tog k v i j ∧ mxd (l.getD i t0).2.2 (l.getD j t0).2.2) ∨ Q) lk S2) =>
        ih (pre ++ [e0]) ts (tp ++ [t]) (gA S 1613 e0) S2 (by rw [List.append_assoc]; exact e1) (by rw [e2]; simp) (by simp [e3]) g1 g2.2.2 (fun x => g3 (List.mem_cons_of_mem _ x)) (hI2.cg ⟨fun x => by
          rcases x with (x | ⟨i, j, q1, q2, q3, q4⟩) | x
          · exact Or.inl x
          · exact Or.inr ⟨i, j, by simp; omega, q2, q3, q4⟩
          · have := hQ.mp x
            exact Or.inr ⟨lp.length, lp.length + 1 + tp.length, Or.inr ⟨rfl, by simp⟩, by omega, hjl, this.1, by rw [hgc, hget]; exact this.2⟩, fun x => by
          rcases x with x | ⟨i, j, q1, q2, q3, q4⟩
          · exact Or.inl (Or.inl x)
          · by_cases q : i < lp.length ∨ (i = lp.length ∧ j < lp.length + 1 + tp.length)
            · exact Or.inl (Or.inr ⟨i, j, q, q2, q3, q4⟩)
            · have e5 : i = lp.length := by simp at q1; omega
              have e6 : j = lp.length + 1 + tp.length := by simp at q1; omega
              subst e5
              subst e6
              rw [hgc, hget] at q4
              exact Or.inr (hQ.mpr q4)⟩)
      refine lt3 (S := S') (hI.1.fin hF) hd n k c e0 v c1 c2 _ tc.2.2 t.2.2 (gA S 1613 e0) hn hc he hk hv1 hc1 hc2.2 ((hI.1.A (by decide)).trans hv) ((hI.1.A (by decide)).trans hc0) ((hI.1.A (by decide)).trans hc2.1) rfl ((hI.2.1 c (fun x => hnc x.symm)).2.trans hlc) ((hI.2.1 e0 (fun x => hn2 x.symm)).2.trans g2.1.2.2) (hI.1.A (by decide)) (fun q => ?_) (fun q1 q2 => ?_)
      · refine keep False ⟨False.elim, fun x => q.elim (fun y => y (htog.mpr x.1)) (fun y => y x.2)⟩ S' (hI.cg ⟨Or.inl, fun x => x.elim id False.elim⟩)
      · have := keep True ⟨fun _ => ⟨htog.mp q1, q2⟩, fun _ => trivial⟩ _ (hI.f True)
        rw [zit_pos trivial] at this
        exact this
/-- the walk over all parts -/
theorem lk_out {S : zS} (hF : zFin true S) (hd : 1 ≤ d) {n k v : Nat} {F lk0 : Int32} {l : List t3} {cs0 : List Nat} (hn : n < 3000) (hk : k < 100) (hv1 : v < 2147483648) (hv : gA S 1611 n = Int32.ofNat v) (hch0 : mCh S (gA S 1612 n) cs0) (hnd : cs0.Nodup) (hnn : n ∉ cs0)
    (kk : ∀ S', lkI S n F (tyMx k v l) (lk0 ||| lkAll l) S' → post (.returned none, S')) :
    ∀ (suf pre : List Nat) (ls lp : List t3) (c : Int32) (S' : zS), pre ++ suf = cs0 → l = lp ++ ls → pre.length = lp.length → mCh S c suf → chT S suf ls →
      lkI S n F ((∃ t ∈ lp, bt 9 t.2.1) ∨ ∃ i j, i < lp.length ∧ i < j ∧ j < l.length ∧ tog k v i j ∧ mxd (l.getD i t0).2.2 (l.getD j t0).2.2) (lk0 ||| lkAll lp) S' →
      zEv d 146 75 [.ref 1592, .int (Int32.ofNat n), .int (Int32.ofNat k), .int c, .retAddr 0, .retAddr 0] [] S' post := by
  intro suf
  induction suf with
  | nil =>
    intro pre ls lp c S' e1 e2 e3 g1 g2 hI
    cases ls with
    | cons => exact g2.elim
    | nil =>
      have g1 : c = -1 := g1
      subst g1
      rw [List.append_nil] at e2
      subst e2
      refine lt2 (S := S') (hI.1.fin hF) n k hn hk (kk S' (hI.cg ?_))
      unfold tyMx
      constructor
      · rintro (x | ⟨i, j, q1, q2, q3, q4⟩)
        · exact Or.inl x
        · exact Or.inr ⟨i, j, q2, q3, q4⟩
      · rintro (x | ⟨i, j, q2, q3, q4⟩)
        · exact Or.inl x
        · exact Or.inr ⟨i, j, by omega, q2, q3, q4⟩
  | cons c0 suf ih =>
    intro pre ls lp c S' e1 e2 e3 g1 g2 hI
    cases ls with
    | nil => exact g2.elim
    | cons t ls =>
      obtain ⟨rfl, hc, g1⟩ := g1
      obtain ⟨⟨gb, gf, gl⟩, ⟨kc, hkc, gk⟩, g2⟩ := g2
      have hmem : c0 ∈ cs0 := by rw [← e1]; simp
      have hnc : n ≠ c0 := fun x => hnn (x ▸ hmem)
      have hndS : suf.Nodup ∧ n ∉ suf := by
        refine ⟨?_, fun x => hnn (by rw [← e1]; simp [x])⟩
        rw [← e1] at hnd
        exact (List.nodup_cons.mp (List.nodup_append.mp hnd).2.1).2
      obtain ⟨c1, cs1, hcs⟩ : ∃ c1 cs1, cs0 = c1 :: cs1 := by
        cases cs0 with
        | nil => cases hmem
        | cons c1 cs1 => exact ⟨c1, cs1, rfl⟩
      have hc1 : gA S 1612 n = Int32.ofNat c1 ∧ c1 < 3000 := by rw [hcs] at hch0; exact ⟨hch0.1, hch0.2.1⟩
      have hpos : (c0 = c1 ↔ lp.length = 0) := by
        constructor
        · intro x
          cases pre with
          | nil => exact e3.symm
          | cons p0 pre =>
            exfalso
            rw [← e1] at hcs hnd
            have h9 : p0 :: (pre ++ c0 :: suf) = c1 :: cs1 := hcs
            injection h9 with h10 h11
            have := (List.nodup_cons.mp hnd).1
            rw [h10, ← x] at this
            exact this (by simp)
        · intro x
          rw [x] at e3
          rw [List.length_eq_zero_iff.mp e3] at e1
          rw [← e1] at hcs
          injection hcs
      refine lt1 (S := S') (hI.1.fin hF) n k c0 kc _ t.2.1 _ t.2.2 (gA S 1613 c0) hn hc hk (by omega) hnc ((hI.1.A (by decide)).trans gk) rfl ((hI.2.1 c0 (fun x => hnc x.symm)).1.trans gf) rfl ((hI.2.1 c0 (fun x => hnc x.symm)).2.trans gl) (hI.1.A (by decide)) (fun _ => ?_) (fun q => by omega)
      rw [f512]
      have hI2 := (hI.f (bt 9 t.2.1)).l (gA S' 1618 n ||| t.2.2)
      refine lk_in (S := S) (lk := lk0 ||| lkAll (lp ++ [t])) (l := l) (lp := lp) (tc := t) (F := F) hF hd hn hk hc hc1.2 hv1 hv hc1.1 hnc gl hpos g1 hndS.1 (fun S2 hI3 => ?_) suf [] ls [] _ _ rfl (by rw [e2]; rfl) rfl g1 g2 hndS.2 ?_
      · refine ih (pre ++ [c0]) ls (lp ++ [t]) _ S2 (by rw [List.append_assoc]; exact e1) (by rw [List.append_assoc]; exact e2) (by simp [e3]) g1 g2 (hI3.cg ?_)
        simp only [List.length_append, List.length_singleton]
      · rw [hI.2.2.2, Int32.or_assoc, ← lkAll_app] at hI2
        rw [hI.2.2.2, Int32.or_assoc, ← lkAll_app]
        refine hI2.cg ⟨fun x => ?_, fun x => ?_⟩
        · rcases x with (⟨u, x1, x2⟩ | ⟨i, j, q1, q2, q3, q4⟩) | x
          · exact Or.inl ⟨u, by simp [x1], x2⟩
          · exact Or.inr ⟨i, j, Or.inl q1, q2, q3, q4⟩
          · exact Or.inl ⟨t, by simp, x⟩
        · rcases x with ⟨u, x1, x2⟩ | ⟨i, j, q1, q2, q3, q4⟩
          · rcases List.mem_append.mp x1 with x1 | x1
            · exact Or.inl (Or.inl ⟨u, x1, x2⟩)
            · rw [List.mem_singleton.mp x1] at x2; exact Or.inr x2
          · refine Or.inl (Or.inr ⟨i, j, ?_, q2, q3, q4⟩)
            rcases q1 with q1 | q1
            · exact q1
            · simp at q1; omega
end T4
/-! ===== judges ===== -/
section T4b
variable {d : Nat} {post : Outcome × zS → Prop}
theorem lkL_4 {v : Nat} : Int32.ofNat (znt (((Int32.ofNat (v / 4194304)) &&& (1 : Int32)) = 1) 8 4) = lkL 4 v := by
  have e : (((Int32.ofNat (v / 4194304)) &&& (1 : Int32)) = 1) ↔ v / 4194304 % 2 = 1 := by
    rw [is_1]
    unfold bt
    show (BitVec.ofNat 32 (v / 4194304)).getLsbD 0 = true ↔ _
    rw [BitVec.getLsbD_ofNat]
    simp [Nat.testBit_zero]
  unfold lkL
  by_cases h : v / 4194304 % 2 = 1
  · rw [znt_pos (e.mpr h)]; simp only [if_pos h]; rfl
  · rw [znt_neg (fun x => h (e.mp x))]; simp only [if_neg h]; rfl
theorem lgc_lt {x y : Int64} : lg_cmp x y < 0 ↔ x.toInt < y.toInt := by
  unfold lg_cmp
  by_cases h : x > y
  · rw [if_pos h]
    have h1 : y < x := h
    rw [Int64.lt_iff_toInt_lt] at h1
    exact ⟨fun q => absurd q (by decide), fun q => by omega⟩
  · rw [if_neg h]
    have h1 : ¬ y.toInt < x.toInt := fun q => h (Int64.lt_iff_toInt_lt.mpr q)
    by_cases e : x = y
    · rw [if_pos e, e]
      exact ⟨fun q => absurd q (by decide), fun q => by omega⟩
    · rw [if_neg e]
      have h2 : x.toInt ≠ y.toInt := fun q => e (Int64.toInt_inj.mp q)
      exact ⟨fun _ => by omega, fun _ => by decide⟩
theorem lgc_eq {x y : Int64} : lg_cmp x y = 0 ↔ x = y := by
  unfold lg_cmp
  by_cases h : x > y
  · rw [if_pos h]
    have h1 : y < x := h
    rw [Int64.lt_iff_toInt_lt] at h1
    exact ⟨fun q => absurd q (by decide), fun q => by rw [q] at h1; omega⟩
  · rw [if_neg h]
    by_cases e : x = y
    · rw [if_pos e]; exact ⟨fun _ => e, fun _ => rfl⟩
    · rw [if_neg e]; exact ⟨fun q => absurd q (by decide), fun q => absurd q e⟩
theorem lgc_gt {x y : Int64} : 0 < lg_cmp x y ↔ y.toInt < x.toInt := by
  unfold lg_cmp
  by_cases h : x > y
  · rw [if_pos h]
    have h1 : y < x := h
    rw [Int64.lt_iff_toInt_lt] at h1
    exact ⟨fun _ => h1, fun _ => by decide⟩
  · rw [if_neg h]
    have h1 : ¬ y.toInt < x.toInt := fun q => h (Int64.lt_iff_toInt_lt.mpr q)
    by_cases e : x = y
    · rw [if_pos e]; exact ⟨fun q => absurd q (by decide), fun q => absurd q h1⟩
    · rw [if_neg e]; exact ⟨fun q => absurd q (by decide), fun q => absurd q h1⟩
theorem lkL_5 {v : Nat} (hv : v < 2147483648) : Int32.ofNat (znt (¬ (¬ ((lg_cmp (Int32.toInt64 (Int32.ofNat v)) 500000000) < 0))) 1 2) = lkL 5 v := by
  have e : ((lg_cmp (Int32.toInt64 (Int32.ofNat v)) 500000000) < 0) ↔ v < 500000000 := by
    have e2 : (Int32.toInt64 (Int32.ofNat v)).toInt = (v : Int) := by rw [Int32.toInt_toInt64]; exact zi_toInt hv
    have e3 : (500000000 : Int64).toInt = 500000000 := by decide +kernel
    rw [lgc_lt, e2, e3]
    omega
  unfold lkL
  by_cases h : v < 500000000
  · rw [znt_pos (fun x => x (e.mpr h))]; simp only [if_pos h]; rfl
  · rw [znt_neg (fun x => x (fun y => h (e.mp y)))]; simp only [if_neg h]; rfl
/-- what is judged: a node whose type isn't known yet -/
theorem m_lockType {S : zS} (hF : zFin true S) (hd : 2 ≤ d) {n k v : Nat} {F : Int32} {l : List t3} {is : List Nat} (hn : n < 3000) (hk1 : k < 30) (hv1 : v < 2147483648) (hk : gA S 1610 n = Int32.ofNat k) (hv : gA S 1611 n = Int32.ofNat v) (hf : gA S 1617 n = F) (hl0 : gA S 1618 n = 0) (hch : mCh S (gA S 1612 n) is) (hT : chT S is l) (hnd : is.Nodup) (hnn : n ∉ is)
    (h : ∀ S', zTK [] [1617, 1618] S S' → (∀ j, j ≠ n → gA S' 1617 j = gA S 1617 j ∧ gA S' 1618 j = gA S 1618 j) → gA S' 1617 n = F ||| zit (tyMx k v l) 512 0 → gA S' 1618 n = lkL k v ||| lkAll l → post (.returned none, S')) : zCall d 146 [.ref 1592, .int (Int32.ofNat n)] S post := by
  have start : ∀ S1 x, (S1 = sA S 1618 n x ∨ (S1 = S ∧ x = 0)) → x = lkL k v → zEv d 146 75 [.ref 1592, .int (Int32.ofNat n), .int (Int32.ofNat k), .int (gA S 1612 n), .retAddr 0, .retAddr 0] [] S1 post := by
    intro S1 x hS1 hx
    refine lk_out (S := S) (lk0 := lkL k v) (l := l) (F := F) hF (by omega) hn (by omega) hv1 hv hch hnd hnn (fun S' hI => h S' hI.1 hI.2.1 hI.2.2.1 hI.2.2.2) is [] l [] _ S1 rfl rfl rfl hch hT ?_
    have e0 : F = F ||| zit ((∃ t ∈ ([] : List t3), bt 9 t.2.1) ∨ ∃ i j, i < ([] : List t3).length ∧ i < j ∧ j < l.length ∧ tog k v i j ∧ mxd (l.getD i t0).2.2 (l.getD j t0).2.2) 512 0 := by
      rw [zit_neg (by rintro (⟨t, ht, -⟩ | ⟨i, j, hi, -⟩); cases ht; simp at hi), Int32.or_zero]
    have e1 : lkL k v ||| lkAll [] = lkL k v := Int32.or_zero
    rw [e1]
    rcases hS1 with rfl | ⟨rfl, rfl⟩
    · exact ⟨zTK_sA (by decide), fun j hj => ⟨rfl, gA_sA_nj hj⟩, hf.trans e0, gA_sA_at.trans hx⟩
    · exact ⟨zTK.rf, fun j hj => ⟨rfl, rfl⟩, hf.trans e0, hl0.trans hx⟩
  by_cases k4 : k = 4
  · subst k4
    exact lt0_4 hF n v _ hn hk hv hv1 rfl (start _ _ (Or.inl rfl) lkL_4)
  · by_cases k5 : k = 5
    · subst k5
      exact lt0_5 hF (by omega) n v _ hn hk hv hv1 rfl (start _ _ (Or.inl rfl) (lkL_5 hv1))
    · refine lt0 hF n k _ hn (by omega) k4 k5 hk rfl (start S 0 (Or.inr ⟨rfl, rfl⟩) ?_)
      unfold lkL
      split
      · exact absurd rfl k4
      · exact absurd rfl k5
      · rfl
end T4b

