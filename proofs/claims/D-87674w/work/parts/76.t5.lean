set_option maxRecDepth 100000
/-! ===== the twin judges a node ===== -/
theorem jdL {d : Nat} {S : zS} (hF : zFin true S) (hd : 1 ≤ d) (n k : Nat)  (hn : n < 3000) (hk : gA S 1610 n = Int32.ofNat k) (hk1 : k < 10) (hc1 : gA S 1612 n = -1) {post : Outcome × zS → Prop} (h1 : zCall (d - 1) 136 [.ref 1592, .int (Int32.ofNat n)] S (zAf d 135 45 [.ref 1592, .int (Int32.ofNat n), .int (Int32.ofNat k), .int (-1), .int (-1)] [] post)) : zCall d 135 [.ref 1592, .int (Int32.ofNat n)] S post := by
  have ht : ztab 135 = ztb135 := rfl
  show zEv d 135 0 [.ref 1592, .int (Int32.ofNat n), .retAddr 0, .retAddr 0, .retAddr 0] [] S post
  refine zv_c1 ht rfl rfl ?_
  refine zv_gl (st' := [.ref 1610]) ht rfl hF rfl rfl rfl ?_
  refine zv_c1 ht rfl rfl ?_
  refine zv_iaE (j := n) (x := Int32.ofNat k) ht rfl rfl rfl rfl (zi_natE (a := n) rfl (by omega)) ⟨(Or.inl rfl), zi_inE (a := n) (n := 3000) rfl (by omega) (by omega)⟩ hk ?_
  refine zv_c2 (L' := [.ref 1592, .int (Int32.ofNat n), .int (Int32.ofNat k), .retAddr 0, .retAddr 0]) ht rfl rfl ?_
  refine zv_c1 ht rfl rfl ?_
  refine zv_gl (st' := [.ref 1612]) ht rfl hF rfl rfl rfl ?_
  refine zv_c1 ht rfl rfl ?_
  refine zv_iaE (j := n) (x := (-1)) ht rfl rfl rfl rfl (zi_natE (a := n) rfl (by omega)) ⟨(Or.inl rfl), zi_inE (a := n) (n := 3000) rfl (by omega) (by omega)⟩ hc1 ?_
  refine zv_c2 (L' := [.ref 1592, .int (Int32.ofNat n), .int (Int32.ofNat k), .int (-1), .retAddr 0]) ht rfl rfl ?_
  refine zv_c1 ht rfl rfl (zv_c1 ht rfl rfl ?_)
  refine zv_br ht rfl rfl rfl (fun h => absurd h (by decide)) (fun _ => ?_)
  refine zv_c1 ht rfl rfl (zv_c1 ht rfl rfl ?_)
  refine zv_c2 (L' := [.ref 1592, .int (Int32.ofNat n), .int (Int32.ofNat k), .int (-1), .int (-1)]) ht rfl rfl ?_
  refine zv_c1 ht rfl rfl (zv_c1 ht rfl rfl ?_)
  refine zv_br ht rfl rfl rfl (fun b1 => ?_) (fun b1 => (show False from by have hq := b1; have hz : ¬ (k < 10) := fun h => hq ((zi_ltE (a := k) (b := 10) rfl rfl (by omega) (by omega)).mpr h); omega).elim)
  refine zv_c1 ht rfl rfl (zv_c1 ht rfl rfl ?_)
  refine zv_cl ht rfl rfl rfl rfl (by omega) (Nat.le_of_ble_eq_true rfl) h1

theorem jdM {d : Nat} {S : zS} (hF : zFin true S) (hd : 1 ≤ d) (n c1 : Nat)  (hn : n < 3000) (hk : gA S 1610 n = Int32.ofNat 18) (h1 : c1 < 3000) (hc1 : gA S 1612 n = Int32.ofNat c1) {post : Outcome × zS → Prop} (h1 : zCall (d - 1) 136 [.ref 1592, .int (Int32.ofNat n)] S (zAf d 135 45 [.ref 1592, .int (Int32.ofNat n), .int 18, .int (Int32.ofNat c1), .int (gA S 1613 c1)] [] post)) : zCall d 135 [.ref 1592, .int (Int32.ofNat n)] S post := by
  have ht : ztab 135 = ztb135 := rfl
  show zEv d 135 0 [.ref 1592, .int (Int32.ofNat n), .retAddr 0, .retAddr 0, .retAddr 0] [] S post
  refine zv_c1 ht rfl rfl ?_
  refine zv_gl (st' := [.ref 1610]) ht rfl hF rfl rfl rfl ?_
  refine zv_c1 ht rfl rfl ?_
  refine zv_iaE (j := n) (x := 18) ht rfl rfl rfl rfl (zi_natE (a := n) rfl (by omega)) ⟨(Or.inl rfl), zi_inE (a := n) (n := 3000) rfl (by omega) (by omega)⟩ hk ?_
  refine zv_c2 (L' := [.ref 1592, .int (Int32.ofNat n), .int 18, .retAddr 0, .retAddr 0]) ht rfl rfl ?_
  refine zv_c1 ht rfl rfl ?_
  refine zv_gl (st' := [.ref 1612]) ht rfl hF rfl rfl rfl ?_
  refine zv_c1 ht rfl rfl ?_
  refine zv_iaE (j := n) (x := Int32.ofNat c1) ht rfl rfl rfl rfl (zi_natE (a := n) rfl (by omega)) ⟨(Or.inl rfl), zi_inE (a := n) (n := 3000) rfl (by omega) (by omega)⟩ hc1 ?_
  refine zv_c2 (L' := [.ref 1592, .int (Int32.ofNat n), .int 18, .int (Int32.ofNat c1), .retAddr 0]) ht rfl rfl ?_
  refine zv_c1 ht rfl rfl (zv_c1 ht rfl rfl ?_)
  refine zv_br ht rfl rfl rfl (fun b1 => ?_) (fun b1 => (b1 (zi_nneg rfl (by omega) (by decide))).elim)
  refine zv_c1 ht rfl rfl ?_
  refine zv_gl (st' := [.ref 1613]) ht rfl hF rfl rfl rfl ?_
  refine zv_c1 ht rfl rfl ?_
  refine zv_iaE (j := c1) (x := gA S 1613 c1) ht rfl rfl rfl rfl (zi_natE (a := c1) rfl (by omega)) ⟨(Or.inl rfl), zi_inE (a := c1) (n := 3000) rfl (by omega) (by omega)⟩ rfl ?_
  refine zv_c2 (L' := [.ref 1592, .int (Int32.ofNat n), .int 18, .int (Int32.ofNat c1), .int (gA S 1613 c1)]) ht rfl rfl ?_
  refine zv_c1 ht rfl rfl (zv_c1 ht rfl rfl ?_)
  refine zv_br ht rfl rfl rfl (fun h => absurd h (by decide)) (fun _ => ?_)
  refine zv_c1 ht rfl rfl (zv_c1 ht rfl rfl ?_)
  refine zv_br ht rfl rfl rfl (fun h => absurd h (by decide)) (fun _ => ?_)
  refine zv_c1 ht rfl rfl (zv_c1 ht rfl rfl ?_)
  refine zv_cl ht rfl rfl rfl rfl (by omega) (Nat.le_of_ble_eq_true rfl) h1

theorem jdT {d : Nat} {S : zS} (hF : zFin true S) (hd : 1 ≤ d) (n k c1 : Nat)  (hn : n < 3000) (hk : gA S 1610 n = Int32.ofNat k) (h1 : c1 < 3000) (hc1 : gA S 1612 n = Int32.ofNat c1) (hk1 : k = 17) {post : Outcome × zS → Prop} (h1 : zCall (d - 1) 138 [.ref 1592, .int (Int32.ofNat n)] S (zAf d 135 59 [.ref 1592, .int (Int32.ofNat n), .int (Int32.ofNat k), .int (Int32.ofNat c1), .int (gA S 1613 c1)] [] post)) : zCall d 135 [.ref 1592, .int (Int32.ofNat n)] S post := by
  have ht : ztab 135 = ztb135 := rfl
  show zEv d 135 0 [.ref 1592, .int (Int32.ofNat n), .retAddr 0, .retAddr 0, .retAddr 0] [] S post
  refine zv_c1 ht rfl rfl ?_
  refine zv_gl (st' := [.ref 1610]) ht rfl hF rfl rfl rfl ?_
  refine zv_c1 ht rfl rfl ?_
  refine zv_iaE (j := n) (x := Int32.ofNat k) ht rfl rfl rfl rfl (zi_natE (a := n) rfl (by omega)) ⟨(Or.inl rfl), zi_inE (a := n) (n := 3000) rfl (by omega) (by omega)⟩ hk ?_
  refine zv_c2 (L' := [.ref 1592, .int (Int32.ofNat n), .int (Int32.ofNat k), .retAddr 0, .retAddr 0]) ht rfl rfl ?_
  refine zv_c1 ht rfl rfl ?_
  refine zv_gl (st' := [.ref 1612]) ht rfl hF rfl rfl rfl ?_
  refine zv_c1 ht rfl rfl ?_
  refine zv_iaE (j := n) (x := Int32.ofNat c1) ht rfl rfl rfl rfl (zi_natE (a := n) rfl (by omega)) ⟨(Or.inl rfl), zi_inE (a := n) (n := 3000) rfl (by omega) (by omega)⟩ hc1 ?_
  refine zv_c2 (L' := [.ref 1592, .int (Int32.ofNat n), .int (Int32.ofNat k), .int (Int32.ofNat c1), .retAddr 0]) ht rfl rfl ?_
  refine zv_c1 ht rfl rfl (zv_c1 ht rfl rfl ?_)
  refine zv_br ht rfl rfl rfl (fun b1 => ?_) (fun b1 => (b1 (zi_nneg rfl (by omega) (by decide))).elim)
  refine zv_c1 ht rfl rfl ?_
  refine zv_gl (st' := [.ref 1613]) ht rfl hF rfl rfl rfl ?_
  refine zv_c1 ht rfl rfl ?_
  refine zv_iaE (j := c1) (x := gA S 1613 c1) ht rfl rfl rfl rfl (zi_natE (a := c1) rfl (by omega)) ⟨(Or.inl rfl), zi_inE (a := c1) (n := 3000) rfl (by omega) (by omega)⟩ rfl ?_
  refine zv_c2 (L' := [.ref 1592, .int (Int32.ofNat n), .int (Int32.ofNat k), .int (Int32.ofNat c1), .int (gA S 1613 c1)]) ht rfl rfl ?_
  refine zv_c1 ht rfl rfl (zv_c1 ht rfl rfl ?_)
  refine zv_br ht rfl rfl rfl (fun b2 => (show False from by have hq := b2; have hz : k < 10 := (zi_ltE (a := k) (b := 10) rfl rfl (by omega) (by omega)).mp hq; omega).elim) (fun b2 => ?_)
  refine zv_c1 ht rfl rfl (zv_c1 ht rfl rfl ?_)
  refine zv_br ht rfl rfl rfl (fun b3 => ?_) (fun b3 => (show False from by have hq := b3; have hz : k = 18 := (zi_eqE (a := k) (b := 18) rfl rfl (by omega) (by omega)).mp (Classical.not_not.mp hq); omega).elim)
  refine zv_c1 ht rfl rfl (zv_c1 ht rfl rfl ?_)
  refine zv_br ht rfl rfl rfl (fun b4 => (show False from by have hq := b4; have hz : ¬ (k = 17) := fun h => hq ((zi_eqE (a := k) (b := 17) rfl rfl (by omega) (by omega)).mpr h); omega).elim) (fun b4 => ?_)
  refine zv_c1 ht rfl rfl (zv_c1 ht rfl rfl ?_)
  refine zv_cl ht rfl rfl rfl rfl (by omega) (Nat.le_of_ble_eq_true rfl) h1

theorem jdW {d : Nat} {S : zS} (hF : zFin true S) (hd : 1 ≤ d) (n k c1 : Nat) (p a : Int32)  (hn : n < 3000) (hk : gA S 1610 n = Int32.ofNat k) (h1 : c1 < 3000) (hc1 : gA S 1612 n = Int32.ofNat c1) (hk1 : 19 ≤ k) (hk2 : k < 26) (hp : gA S 1616 c1 = p) (ha : gA S 1617 c1 = a) {post : Outcome × zS → Prop} (h1 : zCall (d - 1) 141 [.ref 1592, .int (Int32.ofNat n), .int (Int32.ofNat c1), .int p, .int a] S (zAf d 135 86 [.ref 1592, .int (Int32.ofNat n), .int (Int32.ofNat k), .int (Int32.ofNat c1), .int (gA S 1613 c1)] [] post)) : zCall d 135 [.ref 1592, .int (Int32.ofNat n)] S post := by
  have ht : ztab 135 = ztb135 := rfl
  show zEv d 135 0 [.ref 1592, .int (Int32.ofNat n), .retAddr 0, .retAddr 0, .retAddr 0] [] S post
  refine zv_c1 ht rfl rfl ?_
  refine zv_gl (st' := [.ref 1610]) ht rfl hF rfl rfl rfl ?_
  refine zv_c1 ht rfl rfl ?_
  refine zv_iaE (j := n) (x := Int32.ofNat k) ht rfl rfl rfl rfl (zi_natE (a := n) rfl (by omega)) ⟨(Or.inl rfl), zi_inE (a := n) (n := 3000) rfl (by omega) (by omega)⟩ hk ?_
  refine zv_c2 (L' := [.ref 1592, .int (Int32.ofNat n), .int (Int32.ofNat k), .retAddr 0, .retAddr 0]) ht rfl rfl ?_
  refine zv_c1 ht rfl rfl ?_
  refine zv_gl (st' := [.ref 1612]) ht rfl hF rfl rfl rfl ?_
  refine zv_c1 ht rfl rfl ?_
  refine zv_iaE (j := n) (x := Int32.ofNat c1) ht rfl rfl rfl rfl (zi_natE (a := n) rfl (by omega)) ⟨(Or.inl rfl), zi_inE (a := n) (n := 3000) rfl (by omega) (by omega)⟩ hc1 ?_
  refine zv_c2 (L' := [.ref 1592, .int (Int32.ofNat n), .int (Int32.ofNat k), .int (Int32.ofNat c1), .retAddr 0]) ht rfl rfl ?_
  refine zv_c1 ht rfl rfl (zv_c1 ht rfl rfl ?_)
  refine zv_br ht rfl rfl rfl (fun b1 => ?_) (fun b1 => (b1 (zi_nneg rfl (by omega) (by decide))).elim)
  refine zv_c1 ht rfl rfl ?_
  refine zv_gl (st' := [.ref 1613]) ht rfl hF rfl rfl rfl ?_
  refine zv_c1 ht rfl rfl ?_
  refine zv_iaE (j := c1) (x := gA S 1613 c1) ht rfl rfl rfl rfl (zi_natE (a := c1) rfl (by omega)) ⟨(Or.inl rfl), zi_inE (a := c1) (n := 3000) rfl (by omega) (by omega)⟩ rfl ?_
  refine zv_c2 (L' := [.ref 1592, .int (Int32.ofNat n), .int (Int32.ofNat k), .int (Int32.ofNat c1), .int (gA S 1613 c1)]) ht rfl rfl ?_
  refine zv_c1 ht rfl rfl (zv_c1 ht rfl rfl ?_)
  refine zv_br ht rfl rfl rfl (fun b2 => (show False from by have hq := b2; have hz : k < 10 := (zi_ltE (a := k) (b := 10) rfl rfl (by omega) (by omega)).mp hq; omega).elim) (fun b2 => ?_)
  refine zv_c1 ht rfl rfl (zv_c1 ht rfl rfl ?_)
  refine zv_br ht rfl rfl rfl (fun b3 => ?_) (fun b3 => (show False from by have hq := b3; have hz : k = 18 := (zi_eqE (a := k) (b := 18) rfl rfl (by omega) (by omega)).mp (Classical.not_not.mp hq); omega).elim)
  refine zv_c1 ht rfl rfl (zv_c1 ht rfl rfl ?_)
  refine zv_br ht rfl rfl rfl (fun b4 => ?_) (fun b4 => (show False from by have hq := b4; have hz : k = 17 := (zi_eqE (a := k) (b := 17) rfl rfl (by omega) (by omega)).mp (Classical.not_not.mp hq); omega).elim)
  refine zv_c1 ht rfl rfl (zv_c1 ht rfl rfl ?_)
  refine zv_br ht rfl rfl rfl (fun b5 => (show False from by have hq := b5; have hz : k < 19 := (zi_ltE (a := k) (b := 19) rfl rfl (by omega) (by omega)).mp hq; omega).elim) (fun b5 => ?_)
  refine zv_c1 ht rfl rfl (zv_c1 ht rfl rfl (zv_c1 ht rfl rfl (zv_c1 ht rfl rfl ?_)))
  refine zv_gl (st' := [.ref 1616, .int (Int32.ofNat c1), .int (Int32.ofNat n), .ref 1592]) ht rfl hF rfl rfl rfl ?_
  refine zv_c1 ht rfl rfl ?_
  refine zv_iaE (j := c1) (x := p) ht rfl rfl rfl rfl (zi_natE (a := c1) rfl (by omega)) ⟨(Or.inl rfl), zi_inE (a := c1) (n := 3000) rfl (by omega) (by omega)⟩ hp ?_
  refine zv_c1 ht rfl rfl ?_
  refine zv_gl (st' := [.ref 1617, .int p, .int (Int32.ofNat c1), .int (Int32.ofNat n), .ref 1592]) ht rfl hF rfl rfl rfl ?_
  refine zv_c1 ht rfl rfl ?_
  refine zv_iaE (j := c1) (x := a) ht rfl rfl rfl rfl (zi_natE (a := c1) rfl (by omega)) ⟨(Or.inl rfl), zi_inE (a := c1) (n := 3000) rfl (by omega) (by omega)⟩ ha ?_
  refine zv_cl ht rfl rfl rfl rfl (by omega) (Nat.le_of_ble_eq_true rfl) h1

theorem jdA {d : Nat} {S : zS} (hF : zFin true S) (hd : 1 ≤ d) (n k c1 c2 c3 : Nat)  (hn : n < 3000) (hk : gA S 1610 n = Int32.ofNat k) (h1 : c1 < 3000) (hc1 : gA S 1612 n = Int32.ofNat c1) (h2 : c2 < 3000) (hc2 : gA S 1613 c1 = Int32.ofNat c2) (hk1 : k = 10) (h3 : c3 < 3000) (hc3 : gA S 1613 c2 = Int32.ofNat c3) {post : Outcome × zS → Prop} (h1 : zCall (d - 1) 142 [.ref 1592, .int (Int32.ofNat n), .int (Int32.ofNat c1), .int (Int32.ofNat c2), .int (Int32.ofNat c3)] S (zAf d 135 110 [.ref 1592, .int (Int32.ofNat n), .int (Int32.ofNat k), .int (Int32.ofNat c1), .int (Int32.ofNat c2)] [] post)) : zCall d 135 [.ref 1592, .int (Int32.ofNat n)] S post := by
  have ht : ztab 135 = ztb135 := rfl
  show zEv d 135 0 [.ref 1592, .int (Int32.ofNat n), .retAddr 0, .retAddr 0, .retAddr 0] [] S post
  refine zv_c1 ht rfl rfl ?_
  refine zv_gl (st' := [.ref 1610]) ht rfl hF rfl rfl rfl ?_
  refine zv_c1 ht rfl rfl ?_
  refine zv_iaE (j := n) (x := Int32.ofNat k) ht rfl rfl rfl rfl (zi_natE (a := n) rfl (by omega)) ⟨(Or.inl rfl), zi_inE (a := n) (n := 3000) rfl (by omega) (by omega)⟩ hk ?_
  refine zv_c2 (L' := [.ref 1592, .int (Int32.ofNat n), .int (Int32.ofNat k), .retAddr 0, .retAddr 0]) ht rfl rfl ?_
  refine zv_c1 ht rfl rfl ?_
  refine zv_gl (st' := [.ref 1612]) ht rfl hF rfl rfl rfl ?_
  refine zv_c1 ht rfl rfl ?_
  refine zv_iaE (j := n) (x := Int32.ofNat c1) ht rfl rfl rfl rfl (zi_natE (a := n) rfl (by omega)) ⟨(Or.inl rfl), zi_inE (a := n) (n := 3000) rfl (by omega) (by omega)⟩ hc1 ?_
  refine zv_c2 (L' := [.ref 1592, .int (Int32.ofNat n), .int (Int32.ofNat k), .int (Int32.ofNat c1), .retAddr 0]) ht rfl rfl ?_
  refine zv_c1 ht rfl rfl (zv_c1 ht rfl rfl ?_)
  refine zv_br ht rfl rfl rfl (fun b1 => ?_) (fun b1 => (b1 (zi_nneg rfl (by omega) (by decide))).elim)
  refine zv_c1 ht rfl rfl ?_
  refine zv_gl (st' := [.ref 1613]) ht rfl hF rfl rfl rfl ?_
  refine zv_c1 ht rfl rfl ?_
  refine zv_iaE (j := c1) (x := Int32.ofNat c2) ht rfl rfl rfl rfl (zi_natE (a := c1) rfl (by omega)) ⟨(Or.inl rfl), zi_inE (a := c1) (n := 3000) rfl (by omega) (by omega)⟩ hc2 ?_
  refine zv_c2 (L' := [.ref 1592, .int (Int32.ofNat n), .int (Int32.ofNat k), .int (Int32.ofNat c1), .int (Int32.ofNat c2)]) ht rfl rfl ?_
  refine zv_c1 ht rfl rfl (zv_c1 ht rfl rfl ?_)
  refine zv_br ht rfl rfl rfl (fun b2 => (show False from by have hq := b2; have hz : k < 10 := (zi_ltE (a := k) (b := 10) rfl rfl (by omega) (by omega)).mp hq; omega).elim) (fun b2 => ?_)
  refine zv_c1 ht rfl rfl (zv_c1 ht rfl rfl ?_)
  refine zv_br ht rfl rfl rfl (fun b3 => ?_) (fun b3 => (show False from by have hq := b3; have hz : k = 18 := (zi_eqE (a := k) (b := 18) rfl rfl (by omega) (by omega)).mp (Classical.not_not.mp hq); omega).elim)
  refine zv_c1 ht rfl rfl (zv_c1 ht rfl rfl ?_)
  refine zv_br ht rfl rfl rfl (fun b4 => ?_) (fun b4 => (show False from by have hq := b4; have hz : k = 17 := (zi_eqE (a := k) (b := 17) rfl rfl (by omega) (by omega)).mp (Classical.not_not.mp hq); omega).elim)
  refine zv_c1 ht rfl rfl (zv_c1 ht rfl rfl ?_)
  refine zv_br ht rfl rfl rfl (fun b5 => ?_) (fun b5 => (show False from by have hq := b5; have hz : ¬ (k < 19) := fun h => hq ((zi_ltE (a := k) (b := 19) rfl rfl (by omega) (by omega)).mpr h); omega).elim)
  refine zv_c1 ht rfl rfl (zv_c1 ht rfl rfl ?_)
  refine zv_br ht rfl rfl rfl (fun b6 => (show False from by have hq := b6; have hz : ¬ (k = 10) := fun h => hq ((zi_eqE (a := k) (b := 10) rfl rfl (by omega) (by omega)).mpr h); omega).elim) (fun b6 => ?_)
  refine zv_c1 ht rfl rfl (zv_c1 ht rfl rfl (zv_c1 ht rfl rfl (zv_c1 ht rfl rfl (zv_c1 ht rfl rfl ?_))))
  refine zv_gl (st' := [.ref 1613, .int (Int32.ofNat c2), .int (Int32.ofNat c1), .int (Int32.ofNat n), .ref 1592]) ht rfl hF rfl rfl rfl ?_
  refine zv_c1 ht rfl rfl ?_
  refine zv_iaE (j := c2) (x := Int32.ofNat c3) ht rfl rfl rfl rfl (zi_natE (a := c2) rfl (by omega)) ⟨(Or.inl rfl), zi_inE (a := c2) (n := 3000) rfl (by omega) (by omega)⟩ hc3 ?_
  refine zv_cl ht rfl rfl rfl rfl (by omega) (Nat.le_of_ble_eq_true rfl) h1

theorem jdP {d : Nat} {S : zS} (hF : zFin true S) (hd : 1 ≤ d) (n k c1 c2 : Nat) (p q a b : Int32)  (hn : n < 3000) (hk : gA S 1610 n = Int32.ofNat k) (h1 : c1 < 3000) (hc1 : gA S 1612 n = Int32.ofNat c1) (h2 : c2 < 3000) (hc2 : gA S 1613 c1 = Int32.ofNat c2) (hk1 : 11 ≤ k) (hk2 : k < 17) (hp : gA S 1616 c1 = p) (hq : gA S 1616 c2 = q) (ha : gA S 1617 c1 = a) (hb : gA S 1617 c2 = b) {post : Outcome × zS → Prop} (h1 : zCall (d - 1) 144 [.ref 1592, .int (Int32.ofNat n), .int (Int32.ofNat k), .int p, .int q, .int a, .int b] S (zAf d 135 145 [.ref 1592, .int (Int32.ofNat n), .int (Int32.ofNat k), .int (Int32.ofNat c1), .int (Int32.ofNat c2)] [] post)) : zCall d 135 [.ref 1592, .int (Int32.ofNat n)] S post := by
  have ht : ztab 135 = ztb135 := rfl
  show zEv d 135 0 [.ref 1592, .int (Int32.ofNat n), .retAddr 0, .retAddr 0, .retAddr 0] [] S post
  refine zv_c1 ht rfl rfl ?_
  refine zv_gl (st' := [.ref 1610]) ht rfl hF rfl rfl rfl ?_
  refine zv_c1 ht rfl rfl ?_
  refine zv_iaE (j := n) (x := Int32.ofNat k) ht rfl rfl rfl rfl (zi_natE (a := n) rfl (by omega)) ⟨(Or.inl rfl), zi_inE (a := n) (n := 3000) rfl (by omega) (by omega)⟩ hk ?_
  refine zv_c2 (L' := [.ref 1592, .int (Int32.ofNat n), .int (Int32.ofNat k), .retAddr 0, .retAddr 0]) ht rfl rfl ?_
  refine zv_c1 ht rfl rfl ?_
  refine zv_gl (st' := [.ref 1612]) ht rfl hF rfl rfl rfl ?_
  refine zv_c1 ht rfl rfl ?_
  refine zv_iaE (j := n) (x := Int32.ofNat c1) ht rfl rfl rfl rfl (zi_natE (a := n) rfl (by omega)) ⟨(Or.inl rfl), zi_inE (a := n) (n := 3000) rfl (by omega) (by omega)⟩ hc1 ?_
  refine zv_c2 (L' := [.ref 1592, .int (Int32.ofNat n), .int (Int32.ofNat k), .int (Int32.ofNat c1), .retAddr 0]) ht rfl rfl ?_
  refine zv_c1 ht rfl rfl (zv_c1 ht rfl rfl ?_)
  refine zv_br ht rfl rfl rfl (fun b1 => ?_) (fun b1 => (b1 (zi_nneg rfl (by omega) (by decide))).elim)
  refine zv_c1 ht rfl rfl ?_
  refine zv_gl (st' := [.ref 1613]) ht rfl hF rfl rfl rfl ?_
  refine zv_c1 ht rfl rfl ?_
  refine zv_iaE (j := c1) (x := Int32.ofNat c2) ht rfl rfl rfl rfl (zi_natE (a := c1) rfl (by omega)) ⟨(Or.inl rfl), zi_inE (a := c1) (n := 3000) rfl (by omega) (by omega)⟩ hc2 ?_
  refine zv_c2 (L' := [.ref 1592, .int (Int32.ofNat n), .int (Int32.ofNat k), .int (Int32.ofNat c1), .int (Int32.ofNat c2)]) ht rfl rfl ?_
  refine zv_c1 ht rfl rfl (zv_c1 ht rfl rfl ?_)
  refine zv_br ht rfl rfl rfl (fun b2 => (show False from by have hq := b2; have hz : k < 10 := (zi_ltE (a := k) (b := 10) rfl rfl (by omega) (by omega)).mp hq; omega).elim) (fun b2 => ?_)
  refine zv_c1 ht rfl rfl (zv_c1 ht rfl rfl ?_)
  refine zv_br ht rfl rfl rfl (fun b3 => ?_) (fun b3 => (show False from by have hq := b3; have hz : k = 18 := (zi_eqE (a := k) (b := 18) rfl rfl (by omega) (by omega)).mp (Classical.not_not.mp hq); omega).elim)
  refine zv_c1 ht rfl rfl (zv_c1 ht rfl rfl ?_)
  refine zv_br ht rfl rfl rfl (fun b4 => ?_) (fun b4 => (show False from by have hq := b4; have hz : k = 17 := (zi_eqE (a := k) (b := 17) rfl rfl (by omega) (by omega)).mp (Classical.not_not.mp hq); omega).elim)
  refine zv_c1 ht rfl rfl (zv_c1 ht rfl rfl ?_)
  refine zv_br ht rfl rfl rfl (fun b5 => ?_) (fun b5 => (show False from by have hq := b5; have hz : ¬ (k < 19) := fun h => hq ((zi_ltE (a := k) (b := 19) rfl rfl (by omega) (by omega)).mpr h); omega).elim)
  refine zv_c1 ht rfl rfl (zv_c1 ht rfl rfl ?_)
  refine zv_br ht rfl rfl rfl (fun b6 => ?_) (fun b6 => (show False from by have hq := b6; have hz : k = 10 := (zi_eqE (a := k) (b := 10) rfl rfl (by omega) (by omega)).mp (Classical.not_not.mp hq); omega).elim)
  refine zv_c1 ht rfl rfl (zv_c1 ht rfl rfl (zv_c1 ht rfl rfl (zv_c1 ht rfl rfl ?_)))
  refine zv_gl (st' := [.ref 1616, .int (Int32.ofNat k), .int (Int32.ofNat n), .ref 1592]) ht rfl hF rfl rfl rfl ?_
  refine zv_c1 ht rfl rfl ?_
  refine zv_iaE (j := c1) (x := p) ht rfl rfl rfl rfl (zi_natE (a := c1) rfl (by omega)) ⟨(Or.inl rfl), zi_inE (a := c1) (n := 3000) rfl (by omega) (by omega)⟩ hp ?_
  refine zv_c1 ht rfl rfl ?_
  refine zv_gl (st' := [.ref 1616, .int p, .int (Int32.ofNat k), .int (Int32.ofNat n), .ref 1592]) ht rfl hF rfl rfl rfl ?_
  refine zv_c1 ht rfl rfl ?_
  refine zv_iaE (j := c2) (x := q) ht rfl rfl rfl rfl (zi_natE (a := c2) rfl (by omega)) ⟨(Or.inl rfl), zi_inE (a := c2) (n := 3000) rfl (by omega) (by omega)⟩ hq ?_
  refine zv_c1 ht rfl rfl ?_
  refine zv_gl (st' := [.ref 1617, .int q, .int p, .int (Int32.ofNat k), .int (Int32.ofNat n), .ref 1592]) ht rfl hF rfl rfl rfl ?_
  refine zv_c1 ht rfl rfl ?_
  refine zv_iaE (j := c1) (x := a) ht rfl rfl rfl rfl (zi_natE (a := c1) rfl (by omega)) ⟨(Or.inl rfl), zi_inE (a := c1) (n := 3000) rfl (by omega) (by omega)⟩ ha ?_
  refine zv_c1 ht rfl rfl ?_
  refine zv_gl (st' := [.ref 1617, .int a, .int q, .int p, .int (Int32.ofNat k), .int (Int32.ofNat n), .ref 1592]) ht rfl hF rfl rfl rfl ?_
  refine zv_c1 ht rfl rfl ?_
  refine zv_iaE (j := c2) (x := b) ht rfl rfl rfl rfl (zi_natE (a := c2) rfl (by omega)) ⟨(Or.inl rfl), zi_inE (a := c2) (n := 3000) rfl (by omega) (by omega)⟩ hb ?_
  refine zv_cl ht rfl rfl rfl rfl (by omega) (Nat.le_of_ble_eq_true rfl) h1

theorem jz48 {d : Nat} {S : zS} (hF : zFin true S) (hd : 1 ≤ d) (n : Nat) (b : Int32)  (hn : n < 3000) (hb : gA S 1616 n = b) {post : Outcome × zS → Prop} (h1 : (¬ (b = (-1))) → zCall (d - 1) 146 [.ref 1592, .int (Int32.ofNat n)] S (zAf d 135 162 [.ref 1592, .int (Int32.ofNat n), .retAddr 0, .retAddr 0, .retAddr 0] [] post)) (h2 : (b = (-1)) → post (.returned (some (.int 0)), S)) : zEv d 135 48 [.ref 1592, .int (Int32.ofNat n), .retAddr 0, .retAddr 0, .retAddr 0] [] S post := by
  have ht : ztab 135 = ztb135 := rfl
  refine zv_c1 ht rfl rfl (zv_c1 ht rfl rfl ?_)
  refine zv_gl (st' := [.ref 1616]) ht rfl hF rfl rfl rfl ?_
  refine zv_c1 ht rfl rfl ?_
  refine zv_iaE (j := n) (x := b) ht rfl rfl rfl rfl (zi_natE (a := n) rfl (by omega)) ⟨(Or.inl rfl), zi_inE (a := n) (n := 3000) rfl (by omega) (by omega)⟩ hb ?_
  refine zv_c1 ht rfl rfl ?_
  refine zv_br ht rfl rfl rfl (fun b1 => ?_) (fun b1 => ?_)
  · refine zv_c1 ht rfl rfl (zv_c1 ht rfl rfl ?_)
    refine zv_cl ht rfl rfl rfl rfl (by omega) (Nat.le_of_ble_eq_true rfl) (h1 b1)
  · replace b1 : b = (-1) := Classical.not_not.mp b1
    refine zv_c1 ht rfl rfl ?_
    exact zv_rc ht rfl rfl rfl rfl (by decide) (h2 b1)

theorem jz62 {d : Nat} {S : zS} (hF : zFin true S) (hd : 1 ≤ d) (n : Nat) (b : Int32)  (hn : n < 3000) (hb : gA S 1616 n = b) {post : Outcome × zS → Prop} (h1 : (¬ (b = (-1))) → zCall (d - 1) 146 [.ref 1592, .int (Int32.ofNat n)] S (zAf d 135 162 [.ref 1592, .int (Int32.ofNat n), .retAddr 0, .retAddr 0, .retAddr 0] [] post)) (h2 : (b = (-1)) → post (.returned (some (.int 0)), S)) : zEv d 135 62 [.ref 1592, .int (Int32.ofNat n), .retAddr 0, .retAddr 0, .retAddr 0] [] S post := by
  have ht : ztab 135 = ztb135 := rfl
  refine zv_c1 ht rfl rfl (zv_c1 ht rfl rfl ?_)
  refine zv_gl (st' := [.ref 1616]) ht rfl hF rfl rfl rfl ?_
  refine zv_c1 ht rfl rfl ?_
  refine zv_iaE (j := n) (x := b) ht rfl rfl rfl rfl (zi_natE (a := n) rfl (by omega)) ⟨(Or.inl rfl), zi_inE (a := n) (n := 3000) rfl (by omega) (by omega)⟩ hb ?_
  refine zv_c1 ht rfl rfl ?_
  refine zv_br ht rfl rfl rfl (fun b1 => ?_) (fun b1 => ?_)
  · refine zv_c1 ht rfl rfl (zv_c1 ht rfl rfl ?_)
    refine zv_cl ht rfl rfl rfl rfl (by omega) (Nat.le_of_ble_eq_true rfl) (h1 b1)
  · replace b1 : b = (-1) := Classical.not_not.mp b1
    refine zv_c1 ht rfl rfl ?_
    exact zv_rc ht rfl rfl rfl rfl (by decide) (h2 b1)

theorem jz89 {d : Nat} {S : zS} (hF : zFin true S) (hd : 1 ≤ d) (n : Nat) (b : Int32)  (hn : n < 3000) (hb : gA S 1616 n = b) {post : Outcome × zS → Prop} (h1 : (¬ (b = (-1))) → zCall (d - 1) 146 [.ref 1592, .int (Int32.ofNat n)] S (zAf d 135 162 [.ref 1592, .int (Int32.ofNat n), .retAddr 0, .retAddr 0, .retAddr 0] [] post)) (h2 : (b = (-1)) → post (.returned (some (.int 0)), S)) : zEv d 135 89 [.ref 1592, .int (Int32.ofNat n), .retAddr 0, .retAddr 0, .retAddr 0] [] S post := by
  have ht : ztab 135 = ztb135 := rfl
  refine zv_c1 ht rfl rfl (zv_c1 ht rfl rfl ?_)
  refine zv_gl (st' := [.ref 1616]) ht rfl hF rfl rfl rfl ?_
  refine zv_c1 ht rfl rfl ?_
  refine zv_iaE (j := n) (x := b) ht rfl rfl rfl rfl (zi_natE (a := n) rfl (by omega)) ⟨(Or.inl rfl), zi_inE (a := n) (n := 3000) rfl (by omega) (by omega)⟩ hb ?_
  refine zv_c1 ht rfl rfl ?_
  refine zv_br ht rfl rfl rfl (fun b1 => ?_) (fun b1 => ?_)
  · refine zv_c1 ht rfl rfl (zv_c1 ht rfl rfl ?_)
    refine zv_cl ht rfl rfl rfl rfl (by omega) (Nat.le_of_ble_eq_true rfl) (h1 b1)
  · replace b1 : b = (-1) := Classical.not_not.mp b1
    refine zv_c1 ht rfl rfl ?_
    exact zv_rc ht rfl rfl rfl rfl (by decide) (h2 b1)

theorem jz113 {d : Nat} {S : zS} (hF : zFin true S) (hd : 1 ≤ d) (n : Nat) (b : Int32)  (hn : n < 3000) (hb : gA S 1616 n = b) {post : Outcome × zS → Prop} (h1 : (¬ (b = (-1))) → zCall (d - 1) 146 [.ref 1592, .int (Int32.ofNat n)] S (zAf d 135 162 [.ref 1592, .int (Int32.ofNat n), .retAddr 0, .retAddr 0, .retAddr 0] [] post)) (h2 : (b = (-1)) → post (.returned (some (.int 0)), S)) : zEv d 135 113 [.ref 1592, .int (Int32.ofNat n), .retAddr 0, .retAddr 0, .retAddr 0] [] S post := by
  have ht : ztab 135 = ztb135 := rfl
  refine zv_c1 ht rfl rfl (zv_c1 ht rfl rfl ?_)
  refine zv_gl (st' := [.ref 1616]) ht rfl hF rfl rfl rfl ?_
  refine zv_c1 ht rfl rfl ?_
  refine zv_iaE (j := n) (x := b) ht rfl rfl rfl rfl (zi_natE (a := n) rfl (by omega)) ⟨(Or.inl rfl), zi_inE (a := n) (n := 3000) rfl (by omega) (by omega)⟩ hb ?_
  refine zv_c1 ht rfl rfl ?_
  refine zv_br ht rfl rfl rfl (fun b1 => ?_) (fun b1 => ?_)
  · refine zv_c1 ht rfl rfl (zv_c1 ht rfl rfl ?_)
    refine zv_cl ht rfl rfl rfl rfl (by omega) (Nat.le_of_ble_eq_true rfl) (h1 b1)
  · replace b1 : b = (-1) := Classical.not_not.mp b1
    refine zv_c1 ht rfl rfl ?_
    exact zv_rc ht rfl rfl rfl rfl (by decide) (h2 b1)

theorem jz148 {d : Nat} {S : zS} (hF : zFin true S) (hd : 1 ≤ d) (n : Nat) (b : Int32)  (hn : n < 3000) (hb : gA S 1616 n = b) {post : Outcome × zS → Prop} (h1 : (¬ (b = (-1))) → zCall (d - 1) 146 [.ref 1592, .int (Int32.ofNat n)] S (zAf d 135 162 [.ref 1592, .int (Int32.ofNat n), .retAddr 0, .retAddr 0, .retAddr 0] [] post)) (h2 : (b = (-1)) → post (.returned (some (.int 0)), S)) : zEv d 135 148 [.ref 1592, .int (Int32.ofNat n), .retAddr 0, .retAddr 0, .retAddr 0] [] S post := by
  have ht : ztab 135 = ztb135 := rfl
  refine zv_c1 ht rfl rfl ?_
  refine zv_gl (st' := [.ref 1616]) ht rfl hF rfl rfl rfl ?_
  refine zv_c1 ht rfl rfl ?_
  refine zv_iaE (j := n) (x := b) ht rfl rfl rfl rfl (zi_natE (a := n) rfl (by omega)) ⟨(Or.inl rfl), zi_inE (a := n) (n := 3000) rfl (by omega) (by omega)⟩ hb ?_
  refine zv_c1 ht rfl rfl ?_
  refine zv_br ht rfl rfl rfl (fun b1 => ?_) (fun b1 => ?_)
  · refine zv_c1 ht rfl rfl (zv_c1 ht rfl rfl ?_)
    refine zv_cl ht rfl rfl rfl rfl (by omega) (Nat.le_of_ble_eq_true rfl) (h1 b1)
  · replace b1 : b = (-1) := Classical.not_not.mp b1
    refine zv_c1 ht rfl rfl ?_
    exact zv_rc ht rfl rfl rfl rfl (by decide) (h2 b1)

theorem jzE {d : Nat} {S : zS} (hF : zFin true S)  {post : Outcome × zS → Prop} (h1 : post (.returned (some (.int 1)), S)) : zEv d 135 165 [.retAddr 0, .retAddr 0, .retAddr 0, .retAddr 0, .retAddr 0] [] S post := by
  have ht : ztab 135 = ztb135 := rfl
  refine zv_c1 ht rfl rfl ?_
  exact zv_rc ht rfl rfl rfl rfl (by decide) h1

section T5
variable {d : Nat} {post : Outcome × zS → Prop}
theorem tyL_ne (k : Nat) : (tyL k).1 ≠ -1 := by
  unfold tyL
  split <;> decide
theorem zop_some {α : Type} {P : Prop} {x y : α} (h : zop P x = some y) : P ∧ x = y := by
  by_cases hp : P
  · rw [zop_pos hp] at h; exact ⟨hp, Option.some.inj h⟩
  · rw [zop_neg hp] at h; cases h
theorem ne3 {x : Int32} (h : x = 0 ∨ x = 2 ∨ x = 1) : x ≠ -1 := by rcases h with e | e | e <;> (rw [e]; decide)
theorem tyP_ne {k : Nat} {p q a b : Int32} {r : Int32 × Int32} (h : tyP k p q a b = some r) : r.1 ≠ -1 := by
  unfold tyP at h
  split at h <;> (obtain ⟨h1, rfl⟩ := zop_some h)
  · exact ne3 h1.2
  · exact (by decide : (0 : Int32) ≠ -1)
  · exact (by decide : (0 : Int32) ≠ -1)
  · exact (by decide : (1 : Int32) ≠ -1)
  · exact (by decide : (0 : Int32) ≠ -1)
  · exact ne3 h1.1
theorem tyW_ne {k : Nat} {p a : Int32} {r : Int32 × Int32} (h : tyW k p a = some r) : r.1 ≠ -1 := by
  unfold tyW at h
  split at h <;> (obtain ⟨h1, rfl⟩ := zop_some h; first | exact (by decide : (0 : Int32) ≠ -1) | exact (by decide : (1 : Int32) ≠ -1) | exact (by decide : (3 : Int32) ≠ -1))
theorem tyA_ne {p q t a b c : Int32} {r : Int32 × Int32} (h : tyA10 p q t a b c = some r) : r.1 ≠ -1 := by
  obtain ⟨h1, rfl⟩ := zop_some h
  exact ne3 h1.2.2.1
theorem tyT_ne {v : Nat} {l : List t3} {r : Int32 × Int32} (h : tyT v l = some r) : r.1 ≠ -1 := by
  obtain ⟨h1, rfl⟩ := zop_some h
  exact (by decide : (0 : Int32) ≠ -1)
theorem len2 {α : Type} {l : List α} (h : l.length = 2) : ∃ a b, l = [a, b] := by
  match l, h with
  | [a, b], _ => exact ⟨a, b, rfl⟩
theorem len3 {α : Type} {l : List α} (h : l.length = 3) : ∃ a b c, l = [a, b, c] := by
  match l, h with
  | [a, b, c], _ => exact ⟨a, b, c, rfl⟩
/-- what judging keeps -/
def jKp (S : zS) (n : Nat) (S' : zS) : Prop := zTK [] [1616, 1617, 1618] S S' ∧ ∀ j, j ≠ n → gA S' 1616 j = gA S 1616 j ∧ gA S' 1617 j = gA S 1617 j ∧ gA S' 1618 j = gA S 1618 j
/-- the end of judging: base and flags are there -/
theorem jd_end {S : zS} (hF : zFin true S) (hd : 4 ≤ d) {n k v : Nat} {l : List t3} {is : List Nat} {q : Int32 × Int32} (hn : n < 3000) (hk1 : k < 26) (hv1 : v < 2147483648) (hk : gA S 1610 n = Int32.ofNat k) (hv : gA S 1611 n = Int32.ofNat v) (hl0 : gA S 1618 n = 0) (hch : mCh S (gA S 1612 n) is) (hT : chT S is l) (hnd : is.Nodup) (hnn : n ∉ is)
    (hq : tyB k v l = some q) (h1 : ∀ t S', tyN k v l = some t → jKp S n S' → mTy S' n t → post (.returned (some (.int 1)), S')) :
    zCall (d - 1) 146 [.ref 1592, .int (Int32.ofNat n)] (sA (sA S 1616 n q.1) 1617 n q.2) (zAf d 135 162 [.ref 1592, .int (Int32.ofNat n), .retAddr 0, .retAddr 0, .retAddr 0] [] post) := by
  have hch1 : mCh (sA (sA S 1616 n q.1) 1617 n q.2) (gA (sA (sA S 1616 n q.1) 1617 n q.2) 1612 n) is := hch.eq (fun j _ => rfl)
  have hT1 : ∀ (is : List Nat) (l : List t3), n ∉ is → chT S is l → chT (sA (sA S 1616 n q.1) 1617 n q.2) is l := by
    intro is
    induction is with
    | nil => intro l _ h; cases l with | nil => trivial | cons => exact h.elim
    | cons i is ih =>
      intro l hi h
      cases l with
      | nil => exact h.elim
      | cons t l =>
        have hin : i ≠ n := fun e => hi (by rw [e]; exact List.mem_cons_self)
        exact ⟨⟨(gA_sA_nj (S := S) hin).trans h.1.1, (gA_sA_nj hin).trans h.1.2.1, h.1.2.2⟩, h.2.1, ih l (fun x => hi (List.mem_cons_of_mem _ x)) h.2.2⟩
  refine m_lockType (S := sA (sA S 1616 n q.1) 1617 n q.2) hF (by omega) hn (by omega) hv1 hk hv gA_sA_at hl0 hch1 (hT1 is l hnn hT) hnd hnn (fun S' k1 o1 f1 l1 => ?_)
  show zEv d 135 165 _ _ S' post
  refine zEv.wk (L := [.retAddr 0, .retAddr 0, .retAddr 0, .retAddr 0, .retAddr 0]) ⟨Or.inr rfl, Or.inr rfl, Or.inl rfl, Or.inl rfl, Or.inl rfl, trivial⟩ ?_
  refine jzE (S := S') (k1.fin hF) ?_
  have hN : tyN k v l = some (q.1, q.2 ||| zit (tyMx k v l) 512 0, lkL k v ||| lkAll l) := by unfold tyN; rw [hq]; rfl
  refine h1 _ S' hN ⟨((zTK_sA (by decide)).tr (zTK_sA (by decide))).tr (k1.w (by decide) (by decide)), fun j hj => ⟨?_, ?_, ?_⟩⟩ ⟨?_, f1, l1⟩
  · rw [k1.A (by decide)]; show gA (sA S 1616 n q.1) 1616 j = _; exact gA_sA_nj hj
  · exact (o1 j hj).1.trans (gA_sA_nj hj)
  · exact (o1 j hj).2
  · rw [k1.A (by decide)]; show gA (sA S 1616 n q.1) 1616 n = q.1; exact gA_sA_at
theorem tyN_none {k v : Nat} {l : List t3} (h : tyB k v l = none) : tyN k v l = none := by unfold tyN; rw [h]; rfl
/-- the parts of a node by its kind -/
def arK (k m : Nat) : Prop := (k < 10 → m = 0) ∧ (k = 10 → m = 3) ∧ (11 ≤ k ∧ k < 17 → m = 2) ∧ (k = 17 → 1 ≤ m ∧ m ≤ 12) ∧ (19 ≤ k → m = 1)
/-- the twin judges a node, not of the kind multi -/
theorem m_judges {S : zS} (hF : zFin true S) (hd : 4 ≤ d) {n k v : Nat} {l : List t3} {is : List Nat} (hn : n < 3000) (hk1 : k < 26) (hk18 : k ≠ 18) (hv1 : v < 2147483648) (hv0 : k = 17 → 1 ≤ v) (hk : gA S 1610 n = Int32.ofNat k) (hv : gA S 1611 n = Int32.ofNat v) (hb0 : gA S 1616 n = -1) (hl0 : gA S 1618 n = 0) (hmn : gA S 1614 n = Int32.ofNat is.length) (hch : mCh S (gA S 1612 n) is) (hT : chT S is l) (hnd : is.Nodup) (hnn : n ∉ is) (har : arK k is.length)
    (h1 : ∀ t S', tyN k v l = some t → jKp S n S' → mTy S' n t → post (.returned (some (.int 1)), S')) (h2 : tyN k v l = none → post (.returned (some (.int 0)), S)) : zCall d 135 [.ref 1592, .int (Int32.ofNat n)] S post := by
  have hlen := hT.len
  have fin : ∀ q, tyB k v l = some q → _ := fun q hq => jd_end (d := d) (post := post) hF hd hn hk1 hv1 hk hv hl0 hch hT hnd hnn hq h1
  have wk5 : ∀ {pc : Nat} {a b c : Value} {S1 : zS}, zEv d 135 pc [.ref 1592, .int (Int32.ofNat n), .retAddr 0, .retAddr 0, .retAddr 0] [] S1 post → zEv d 135 pc [.ref 1592, .int (Int32.ofNat n), a, b, c] [] S1 post := fun h => zEv.wk (L := [.ref 1592, .int (Int32.ofNat n), .retAddr 0, .retAddr 0, .retAddr 0]) ⟨Or.inl rfl, Or.inl rfl, Or.inr rfl, Or.inr rfl, Or.inr rfl, trivial⟩ h
  have bat : ∀ q : Int32 × Int32, gA (sA (sA S 1616 n q.1) 1617 n q.2) 1616 n = q.1 := fun q => by show gA (sA S 1616 n q.1) 1616 n = q.1; exact gA_sA_at
  by_cases c1 : k < 10
  · have his : is = [] := List.length_eq_zero_iff.mp (har.1 c1)
    subst his
    have hq : tyB k v l = some (tyL k) := by unfold tyB; rw [if_pos (Or.inl c1)]
    refine jdL hF (by omega) n k hn hk c1 hch ?_
    have go : ∀ {pst : Outcome × zS → Prop}, pst (.returned none, sA (sA S 1616 n (tyL k).1) 1617 n (tyL k).2) → zCall (d - 1) 136 [.ref 1592, .int (Int32.ofNat n)] S pst := by
      intro pst hp
      have : k = 0 ∨ k = 1 ∨ k = 2 ∨ k = 3 ∨ k = 4 ∨ k = 5 ∨ k = 6 ∨ k = 7 ∨ k = 8 ∨ k = 9 := by omega
      rcases this with rfl | rfl | rfl | rfl | rfl | rfl | rfl | rfl | rfl | rfl
      · exact pl0 hF (by omega) n hn hk hp
      · exact pl1 hF (by omega) n hn hk hp
      · exact pl2 hF (by omega) n hn hk hp
      · exact pl3 hF (by omega) n hn hk hp
      · exact pl4 hF (by omega) n hn hk hp
      · exact pl5 hF (by omega) n hn hk hp
      · exact pl6 hF (by omega) n hn hk hp
      · exact pl7 hF (by omega) n hn hk hp
      · exact pl8 hF (by omega) n hn hk hp
      · exact pl9 hF (by omega) n hn hk hp
    refine go ?_
    exact wk5 (jz48 (S := sA (sA S 1616 n (tyL k).1) 1617 n (tyL k).2) hF (by omega) n _ hn (bat _) (fun _ => fin _ hq) (fun b => absurd b (tyL_ne k)))
  by_cases c2 : k = 17
  · subst c2
    have ha := har.2.2.2.1 rfl
    have hq : tyB 17 v l = tyT v l := rfl
    obtain ⟨i0, is0, rfl⟩ : ∃ i0 is0, is = i0 :: is0 := by
      cases is with
      | nil => simp at ha
      | cons i0 is0 => exact ⟨i0, is0, rfl⟩
    refine jdT hF (by omega) n 17 i0 hn hk hch.2.1 hch.1 rfl ?_
    refine m_threshType hF (by omega) hn hch hT hnd hv1 (hv0 rfl) ha.2 ha.1 hmn hv (fun q e => ?_) (fun e => ?_)
    · exact wk5 (jz62 (S := sA (sA S 1616 n q.1) 1617 n q.2) hF (by omega) n _ hn (bat _) (fun _ => fin _ (hq.trans e)) (fun b => absurd b (tyT_ne e)))
    · exact wk5 (jz62 (S := S) hF (by omega) n _ hn hb0 (fun b => absurd rfl b) (fun _ => h2 (tyN_none (hq.trans e))))
  by_cases c3 : 19 ≤ k
  · have hl1 := har.2.2.2.2 c3
    obtain ⟨i0, rfl⟩ := List.length_eq_one_iff.mp hl1
    obtain ⟨t, rfl⟩ := List.length_eq_one_iff.mp (hlen ▸ hl1)
    have hq : tyB k v [t] = tyW k t.1 t.2.1 := by unfold tyB; rw [if_neg (by omega), if_neg (by omega), if_neg (by omega), if_neg (by omega), if_pos hk1]
    refine jdW hF (by omega) n k i0 t.1 t.2.1 hn hk hch.2.1 hch.1 c3 hk1 hT.1.1 hT.1.2.1 ?_
    have go : ∀ {pst : Outcome × zS → Prop}, (∀ q, tyW k t.1 t.2.1 = some q → pst (.returned none, sA (sA S 1616 n q.1) 1617 n q.2)) → (tyW k t.1 t.2.1 = none → pst (.returned none, S)) → zCall (d - 1) 141 [.ref 1592, .int (Int32.ofNat n), .int (Int32.ofNat i0), .int t.1, .int t.2.1] S pst := by
      intro pst hp hp2
      have : k = 19 ∨ k = 20 ∨ k = 21 ∨ k = 22 ∨ k = 23 ∨ k = 24 ∨ k = 25 := by omega
      rcases this with rfl | rfl | rfl | rfl | rfl | rfl | rfl
      · exact wt19 hF (by omega) n i0 _ _ hn hk (fun b => hp2 (zop_neg (fun x => b x))) (fun b => hp _ (zop_pos b))
      · exact wt20 hF (by omega) n i0 _ _ hn hk (fun b => hp2 (zop_neg (fun x => b.elim (fun y => y x.1) (fun y => y x.2)))) (fun b c => hp _ (zop_pos ⟨b, c⟩))
      · exact wt21 hF (by omega) n i0 _ _ hn hk (fun b => hp2 (zop_neg (fun x => b x))) (fun b => hp _ (zop_pos b))
      · exact wt22 hF (by omega) n i0 _ _ hn hk (fun b => hp2 (zop_neg (fun x => b.elim (fun y => y x.1) (fun y => y x.2)))) (fun b c => hp _ (zop_pos ⟨b, c⟩))
      · exact wt23 hF (by omega) n i0 _ _ hn hk (fun b => hp2 (zop_neg (fun x => b x))) (fun b => hp _ (zop_pos b))
      · exact wt24 hF (by omega) n i0 _ _ hn hk (fun b => hp2 (zop_neg (fun x => b.elim (fun y => y x.1) (fun y => y x.2)))) (fun b c => hp _ (zop_pos ⟨b, c⟩))
      · exact wt25 hF (by omega) n i0 _ _ hn hk (fun b => hp2 (zop_neg (fun x => b x))) (fun b => hp _ (zop_pos b))
    refine go (fun q e => ?_) (fun e => ?_)
    · exact wk5 (jz89 (S := sA (sA S 1616 n q.1) 1617 n q.2) hF (by omega) n _ hn (bat _) (fun _ => fin _ (hq.trans e)) (fun b => absurd b (tyW_ne e)))
    · exact wk5 (jz89 (S := S) hF (by omega) n _ hn hb0 (fun b => absurd rfl b) (fun _ => h2 (tyN_none (hq.trans e))))
  by_cases c4 : k = 10
  · subst c4
    have hl3 := har.2.1 rfl
    obtain ⟨i1, i2, i3, rfl⟩ : ∃ a b c, is = [a, b, c] := len3 hl3
    obtain ⟨x, y, z, rfl⟩ : ∃ a b c, l = [a, b, c] := len3 (hlen ▸ hl3)
    have hq : tyB 10 v [x, y, z] = tyA10 x.1 y.1 z.1 x.2.1 y.2.1 z.2.1 := rfl
    obtain ⟨e1, e2, e3, e4, e5, e6, e7⟩ := hch
    obtain ⟨g1, -, g2, -, g3, -, -⟩ := hT
    refine jdA hF (by omega) n 10 i1 i2 i3 hn hk e2 e1 e4 e3 rfl e6 e5 ?_
    refine ao10 hF (by omega) n i1 i2 i3 _ _ _ _ _ _ hn e2 e4 e6 g1.1 g2.1 g3.1 g1.2.1 g2.2.1 g3.2.1 (fun a b c e => ?_) (fun e => ?_)
    · have e9 : tyA10 x.1 y.1 z.1 x.2.1 y.2.1 z.2.1 = some _ := zop_pos ⟨a, b, c, e⟩
      exact wk5 (jz113 (S := sA (sA S 1616 n _) 1617 n _) hF (by omega) n _ hn (bat (_, _)) (fun _ => fin _ (hq.trans e9)) (fun b => absurd b (tyA_ne e9)))
    · refine wk5 (jz113 (S := S) hF (by omega) n _ hn hb0 (fun b => absurd rfl b) (fun _ => h2 (tyN_none (hq.trans (zop_neg (fun q => ?_))))))
      obtain ⟨q1, q2, q3, q4⟩ := q
      rcases e with e | e | e | e
      · exact e q1
      · exact e q2
      · exact e q3
      · exact e q4
  have hkp : 11 ≤ k ∧ k < 17 := by omega
  have hl2 := har.2.2.1 hkp
  obtain ⟨i1, i2, rfl⟩ : ∃ a b, is = [a, b] := len2 hl2
  obtain ⟨x, y, rfl⟩ : ∃ a b, l = [a, b] := len2 (hlen ▸ hl2)
  have hq : tyB k v [x, y] = tyP k x.1 y.1 x.2.1 y.2.1 := by unfold tyB; rw [if_neg (by omega), if_neg c4, if_pos hkp.2]
  obtain ⟨e1, e2, e3, e4, e5⟩ := hch
  obtain ⟨g1, -, g2, -, -⟩ := hT
  refine jdP hF (by omega) n k i1 i2 x.1 y.1 x.2.1 y.2.1 hn hk e2 e1 e4 e3 hkp.1 hkp.2 g1.1 g2.1 g1.2.1 g2.2.1 ?_
  have go : ∀ {pst : Outcome × zS → Prop}, (∀ q, tyP k x.1 y.1 x.2.1 y.2.1 = some q → pst (.returned none, sA (sA S 1616 n q.1) 1617 n q.2)) → (tyP k x.1 y.1 x.2.1 y.2.1 = none → pst (.returned none, S)) → zCall (d - 1) 144 [.ref 1592, .int (Int32.ofNat n), .int (Int32.ofNat k), .int x.1, .int y.1, .int x.2.1, .int y.2.1] S pst := by
    intro pst hp hp2
    have : k = 11 ∨ k = 12 ∨ k = 13 ∨ k = 14 ∨ k = 15 ∨ k = 16 := by omega
    rcases this with rfl | rfl | rfl | rfl | rfl | rfl
    · exact pt11 hF (by omega) n _ _ _ _ hn (fun b c => hp _ (zop_pos ⟨b, c⟩)) (fun b => hp2 (zop_neg (fun q => b.elim (fun y => y q.1) (fun y => y q.2))))
    · exact pt12 hF (by omega) n _ _ _ _ hn (fun b c => hp _ (zop_pos ⟨b, c⟩)) (fun b => hp2 (zop_neg (fun q => b.elim (fun y => y q.1) (fun y => y q.2))))
    · exact pt13 hF (by omega) n _ _ _ _ hn (fun b c d e => hp _ (zop_pos ⟨b, c, d, e⟩)) (fun b => hp2 (zop_neg (fun q => b.elim (fun y => y q.1) (fun b => b.elim (fun y => y q.2.1) (fun b => b.elim (fun y => y q.2.2.1) (fun y => y q.2.2.2))))))
    · exact pt14 hF (by omega) n _ _ _ _ hn (fun b c d => hp _ (zop_pos ⟨b, c, d⟩)) (fun b => hp2 (zop_neg (fun q => b.elim (fun y => y q.1) (fun b => b.elim (fun y => y q.2.1) (fun y => y q.2.2)))))
    · exact pt15 hF (by omega) n _ _ _ _ hn (fun b c d => hp _ (zop_pos ⟨b, c, d⟩)) (fun b => hp2 (zop_neg (fun q => b.elim (fun y => y q.1) (fun b => b.elim (fun y => y q.2.1) (fun y => y q.2.2)))))
    · exact pt16 hF (by omega) n _ _ _ _ hn (fun b c => hp _ (zop_pos ⟨b, c⟩)) (fun b => hp2 (zop_neg (fun q => b.elim (fun y => y q.1) (fun y => y q.2))))
  refine go (fun q e => ?_) (fun e => ?_)
  · exact wk5 (jz148 (S := sA (sA S 1616 n q.1) 1617 n q.2) hF (by omega) n _ hn (bat _) (fun _ => fin _ (hq.trans e)) (fun b => absurd b (tyP_ne e)))
  · exact wk5 (jz148 (S := S) hF (by omega) n _ hn hb0 (fun b => absurd rfl b) (fun _ => h2 (tyN_none (hq.trans e))))
end T5

