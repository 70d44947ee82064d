set_option maxRecDepth 100000
/-! ===== the twin's RIPEMD-160 ===== -/
theorem go0 {d : Nat} {S : zS} (hF : zFin true S) (sd : Int32)   {post : Outcome × zS → Prop} (h1 : zEv d 114 2 [.ref 1592, .int sd, .int (Int32.ofNat 0), .retAddr 0, .retAddr 0, .retAddr 0] [] S post) : zCall d 114 [.ref 1592, .int sd] S post := by
  have ht : ztab 114 = ztb114 := rfl
  show zEv d 114 0 [.ref 1592, .int sd, .retAddr 0, .retAddr 0, .retAddr 0, .retAddr 0] [] S post
  refine zv_c1 ht rfl rfl ?_
  refine zv_c2 (L' := [.ref 1592, .int sd, .int 0, .retAddr 0, .retAddr 0, .retAddr 0]) ht rfl rfl ?_
  exact h1

theorem go1 {d : Nat} {S : zS} (hF : zFin true S) (k : Nat) (sd : Int32)  (hk : k ≤ 5) {post : Outcome × zS → Prop} (h1 : (5 ≤ k) → zEv d 114 27 [.ref 1592, .int sd, .int (Int32.ofNat 0), .retAddr 0, .retAddr 0, .retAddr 0] [] S post) (h2 : (¬ (5 ≤ k)) → zEv d 114 2 [.ref 1592, .int sd, .int (Int32.ofNat (k + 1)), .retAddr 0, .retAddr 0, .retAddr 0] [] (sA S 1606 k (gA S 1597 k)) post) : zEv d 114 2 [.ref 1592, .int sd, .int (Int32.ofNat k), .retAddr 0, .retAddr 0, .retAddr 0] [] S post := by
  have ht : ztab 114 = ztb114 := rfl
  refine zv_c1 ht rfl rfl (zv_c1 ht rfl rfl ?_)
  refine zv_br ht rfl rfl rfl (fun b1 => ?_) (fun b1 => ?_)
  · replace b1 : 5 ≤ k := (zi_leE (a := 5) (b := k) rfl rfl (by omega) (by omega)).mp b1
    refine zv_c1 ht rfl rfl ?_
    refine zv_c2 (L' := [.ref 1592, .int sd, .int 0, .retAddr 0, .retAddr 0, .retAddr 0]) ht rfl rfl ?_
    exact (h1 b1)
  · replace b1 : ¬ (5 ≤ k) := fun h => b1 ((zi_leE (a := 5) (b := k) rfl rfl (by omega) (by omega)).mpr h)
    refine zv_c1 ht rfl rfl ?_
    refine zv_gl (st' := [.ref 1606]) ht rfl hF rfl rfl rfl ?_
    refine zv_c1 ht rfl rfl (zv_c1 ht rfl rfl ?_)
    refine zv_gl (st' := [.ref 1597, .int (Int32.ofNat k), .ref 1606]) ht rfl hF rfl rfl rfl ?_
    refine zv_c1 ht rfl rfl ?_
    refine zv_iaE (j := k) (x := gA S 1597 k) ht rfl rfl rfl rfl (zi_natE (a := k) rfl (by omega)) ⟨(Or.inl rfl), zi_inE (a := k) (n := 8) rfl (by omega) (by omega)⟩ rfl ?_
    refine zv_is (j := k) (x := gA S 1597 k) ht rfl rfl rfl rfl (zi_natE (a := k) rfl (by omega)) ⟨rfl, zi_inE (a := k) (n := 5) rfl (by omega) (by omega)⟩ ?_
    refine zv_iinc (L' := [.ref 1592, .int sd, .int (Int32.ofNat (k + 1)), .retAddr 0, .retAddr 0, .retAddr 0]) (i := 2) (x := Int32.ofNat (k + 1)) ht rfl rfl (zi_addE (a := k) (b := 1) rfl rfl) rfl ?_
    refine zv_c1 ht rfl rfl ?_
    exact (h2 b1)

noncomputable def go2t_s1 (S : zS) (k : Nat) : zS := sA (sA (sA (sA (sA S 1606 0 (gA S 1606 4)) 1606 4 (gA S 1606 3)) 1606 3 (hL (gA S 1606 2) 10)) 1606 2 (gA S 1606 1)) 1606 1 ((hL ((((gA S 1606 0) + (hMix (k / 16) (gA S 1606 1) (gA S 1606 2) (gA S 1606 3))) + (gA S 1596 ((rO true).getD k 0))) + (rK true (k / 16))) (Int32.ofNat ((rT true).getD k 0))) + (gA S 1606 4))
theorem go2t {d : Nat} {S : zS} (hF : zFin true S) (hd : 1 ≤ d) (k : Nat)  (hk : k < 80) (ho : (rO true).getD k 0 < 16) (hro : gA S 1600 k = Int32.ofNat ((rO true).getD k 0)) (hrt : gA S 1602 k = Int32.ofNat ((rT true).getD k 0)) (hrk : gA S 1604 (k / 16) = rK true (k / 16)) {post : Outcome × zS → Prop} (h1 : zEv d 114 27 [.ref 1592, .int (Int32.ofNat 0), .int (Int32.ofNat (k + 1)), .retAddr 0, .retAddr 0, .retAddr 0] [] (go2t_s1 S k) post) : zEv d 114 27 [.ref 1592, .int 0, .int (Int32.ofNat k), .retAddr 0, .retAddr 0, .retAddr 0] [] S post := by
  have ht : ztab 114 = ztb114 := rfl
  refine zv_c1 ht rfl rfl (zv_c1 ht rfl rfl ?_)
  refine zv_br ht rfl rfl rfl (fun b1 => (show False from by have hq := b1; have hz : 80 ≤ k := (zi_leE (a := 80) (b := k) rfl rfl (by omega) (by omega)).mp hq; omega).elim) (fun b1 => ?_)
  refine zv_c1 ht rfl rfl ?_
  refine zv_br ht rfl rfl rfl (fun h => absurd h (by decide)) (fun _ => ?_)
  refine zv_c1 ht rfl rfl (zv_c1 ht rfl rfl ?_)
  refine zv_ei (x := Int32.ofNat (k / 16)) ht rfl rfl (zi_nz (a := 16) rfl (by omega) (by omega)) (zi_divE (a := k) (b := 16) rfl rfl (by omega) (by omega)) ?_
  refine zv_c1 ht rfl rfl (zv_c1 ht rfl rfl ?_)
  refine zv_gl (st' := [.ref 1606, .int (Int32.ofNat (k / 16))]) ht rfl hF rfl rfl rfl ?_
  refine zv_c1 ht rfl rfl ?_
  refine zv_iaE (j := 1) (x := gA S 1606 1) ht rfl rfl rfl rfl (zi_nat (k := 1) (by decide)) ⟨(Or.inl rfl), zi_in (k := 1) (n := 5) (by decide) (by decide)⟩ rfl ?_
  refine zv_c1 ht rfl rfl ?_
  refine zv_gl (st' := [.ref 1606, .int (gA S 1606 1), .int (Int32.ofNat (k / 16))]) ht rfl hF rfl rfl rfl ?_
  refine zv_c1 ht rfl rfl ?_
  refine zv_iaE (j := 2) (x := gA S 1606 2) ht rfl rfl rfl rfl (zi_nat (k := 2) (by decide)) ⟨(Or.inl rfl), zi_in (k := 2) (n := 5) (by decide) (by decide)⟩ rfl ?_
  refine zv_c1 ht rfl rfl ?_
  refine zv_gl (st' := [.ref 1606, .int (gA S 1606 2), .int (gA S 1606 1), .int (Int32.ofNat (k / 16))]) ht rfl hF rfl rfl rfl ?_
  refine zv_c1 ht rfl rfl ?_
  refine zv_iaE (j := 3) (x := gA S 1606 3) ht rfl rfl rfl rfl (zi_nat (k := 3) (by decide)) ⟨(Or.inl rfl), zi_in (k := 3) (n := 5) (by decide) (by decide)⟩ rfl ?_
  refine zv_cl ht rfl rfl rfl rfl (by omega) (Nat.le_of_ble_eq_true rfl) (m_mix (S := S) hF (k / 16) (by omega) _ _ _ ?_)
  show zEv d 114 71 [.ref 1592, .int 0, .int (Int32.ofNat k), .retAddr 0, .retAddr 0, .retAddr 0] [.int (hMix (k / 16) (gA S 1606 1) (gA S 1606 2) (gA S 1606 3))] S post
  refine zv_c2 (L' := [.ref 1592, .int 0, .int (Int32.ofNat k), .int (hMix (k / 16) (gA S 1606 1) (gA S 1606 2) (gA S 1606 3)), .retAddr 0, .retAddr 0]) ht rfl rfl ?_
  refine zv_c1 ht rfl rfl ?_
  refine zv_gl (st' := [.ref 1596]) ht rfl hF rfl rfl rfl ?_
  refine zv_c1 ht rfl rfl ?_
  refine zv_br ht rfl rfl rfl (fun h => absurd h (by decide)) (fun _ => ?_)
  refine zv_c1 ht rfl rfl ?_
  refine zv_gl (st' := [.ref 1600, .ref 1596]) ht rfl hF rfl rfl rfl ?_
  refine zv_c1 ht rfl rfl ?_
  refine zv_iaE (j := k) (x := Int32.ofNat ((rO true).getD k 0)) ht rfl rfl rfl rfl (zi_natE (a := k) rfl (by omega)) ⟨(Or.inl rfl), zi_inE (a := k) (n := 80) rfl (by omega) (by omega)⟩ hro ?_
  refine zv_c1 ht rfl rfl ?_
  refine zv_iaE (j := (rO true).getD k 0) (x := gA S 1596 ((rO true).getD k 0)) ht rfl rfl rfl rfl (zi_natE (a := (rO true).getD k 0) rfl (by omega)) ⟨(Or.inl rfl), zi_inE (a := (rO true).getD k 0) (n := 64) rfl (by omega) (by omega)⟩ rfl ?_
  refine zv_c2 (L' := [.ref 1592, .int 0, .int (Int32.ofNat k), .int (hMix (k / 16) (gA S 1606 1) (gA S 1606 2) (gA S 1606 3)), .int (gA S 1596 ((rO true).getD k 0)), .retAddr 0]) ht rfl rfl ?_
  refine zv_c1 ht rfl rfl ?_
  refine zv_gl (st' := [.ref 1606]) ht rfl hF rfl rfl rfl ?_
  refine zv_c1 ht rfl rfl ?_
  refine zv_iaE (j := 0) (x := gA S 1606 0) ht rfl rfl rfl rfl (zi_nat (k := 0) (by decide)) ⟨(Or.inl rfl), zi_in (k := 0) (n := 5) (by decide) (by decide)⟩ rfl ?_
  refine zv_c1 ht rfl rfl ?_
  refine zv_c1 (st' := [.int ((gA S 1606 0) + (hMix (k / 16) (gA S 1606 1) (gA S 1606 2) (gA S 1606 3)))]) (S' := S) ht rfl rfl ?_
  refine zv_c1 ht rfl rfl ?_
  refine zv_c1 (st' := [.int (((gA S 1606 0) + (hMix (k / 16) (gA S 1606 1) (gA S 1606 2) (gA S 1606 3))) + (gA S 1596 ((rO true).getD k 0)))]) (S' := S) ht rfl rfl ?_
  refine zv_c1 ht rfl rfl ?_
  refine zv_br ht rfl rfl rfl (fun h => absurd h (by decide)) (fun _ => ?_)
  refine zv_c1 ht rfl rfl ?_
  refine zv_gl (st' := [.ref 1604, .int (((gA S 1606 0) + (hMix (k / 16) (gA S 1606 1) (gA S 1606 2) (gA S 1606 3))) + (gA S 1596 ((rO true).getD k 0)))]) ht rfl hF rfl rfl rfl ?_
  refine zv_c1 ht rfl rfl (zv_c1 ht rfl rfl ?_)
  refine zv_ei (x := Int32.ofNat (k / 16)) ht rfl rfl (zi_nz (a := 16) rfl (by omega) (by omega)) (zi_divE (a := k) (b := 16) rfl rfl (by omega) (by omega)) ?_
  refine zv_iaE (j := k / 16) (x := rK true (k / 16)) ht rfl rfl rfl rfl (zi_natE (a := k / 16) rfl (by omega)) ⟨(Or.inl rfl), zi_inE (a := k / 16) (n := 5) rfl (by omega) (by omega)⟩ hrk ?_
  refine zv_c1 ht rfl rfl ?_
  refine zv_c1 (st' := [.int ((((gA S 1606 0) + (hMix (k / 16) (gA S 1606 1) (gA S 1606 2) (gA S 1606 3))) + (gA S 1596 ((rO true).getD k 0))) + (rK true (k / 16)))]) (S' := S) ht rfl rfl ?_
  refine zv_c1 ht rfl rfl ?_
  refine zv_br ht rfl rfl rfl (fun h => absurd h (by decide)) (fun _ => ?_)
  refine zv_c1 ht rfl rfl ?_
  refine zv_gl (st' := [.ref 1602, .int ((((gA S 1606 0) + (hMix (k / 16) (gA S 1606 1) (gA S 1606 2) (gA S 1606 3))) + (gA S 1596 ((rO true).getD k 0))) + (rK true (k / 16)))]) ht rfl hF rfl rfl rfl ?_
  refine zv_c1 ht rfl rfl ?_
  refine zv_iaE (j := k) (x := Int32.ofNat ((rT true).getD k 0)) ht rfl rfl rfl rfl (zi_natE (a := k) rfl (by omega)) ⟨(Or.inl rfl), zi_inE (a := k) (n := 80) rfl (by omega) (by omega)⟩ hrt ?_
  refine zv_c1 ht rfl rfl ?_
  refine zv_cl ht rfl rfl rfl rfl (by omega) (Nat.le_of_ble_eq_true rfl) (m_left (S := S) hF _ _ ?_)
  show zEv d 114 157 [.ref 1592, .int 0, .int (Int32.ofNat k), .int (hMix (k / 16) (gA S 1606 1) (gA S 1606 2) (gA S 1606 3)), .int (gA S 1596 ((rO true).getD k 0)), .retAddr 0] [.int (hL ((((gA S 1606 0) + (hMix (k / 16) (gA S 1606 1) (gA S 1606 2) (gA S 1606 3))) + (gA S 1596 ((rO true).getD k 0))) + (rK true (k / 16))) (Int32.ofNat ((rT true).getD k 0)))] S post
  refine zv_c1 ht rfl rfl ?_
  refine zv_gl (st' := [.ref 1606, .int (hL ((((gA S 1606 0) + (hMix (k / 16) (gA S 1606 1) (gA S 1606 2) (gA S 1606 3))) + (gA S 1596 ((rO true).getD k 0))) + (rK true (k / 16))) (Int32.ofNat ((rT true).getD k 0)))]) ht rfl hF rfl rfl rfl ?_
  refine zv_c1 ht rfl rfl ?_
  refine zv_iaE (j := 4) (x := gA S 1606 4) ht rfl rfl rfl rfl (zi_nat (k := 4) (by decide)) ⟨(Or.inl rfl), zi_in (k := 4) (n := 5) (by decide) (by decide)⟩ rfl ?_
  refine zv_c1 (st' := [.int ((hL ((((gA S 1606 0) + (hMix (k / 16) (gA S 1606 1) (gA S 1606 2) (gA S 1606 3))) + (gA S 1596 ((rO true).getD k 0))) + (rK true (k / 16))) (Int32.ofNat ((rT true).getD k 0))) + (gA S 1606 4))]) (S' := S) ht rfl rfl ?_
  refine zv_c2 (L' := [.ref 1592, .int 0, .int (Int32.ofNat k), .int (hMix (k / 16) (gA S 1606 1) (gA S 1606 2) (gA S 1606 3)), .int (gA S 1596 ((rO true).getD k 0)), .int ((hL ((((gA S 1606 0) + (hMix (k / 16) (gA S 1606 1) (gA S 1606 2) (gA S 1606 3))) + (gA S 1596 ((rO true).getD k 0))) + (rK true (k / 16))) (Int32.ofNat ((rT true).getD k 0))) + (gA S 1606 4))]) ht rfl rfl ?_
  refine zv_c1 ht rfl rfl ?_
  refine zv_gl (st' := [.ref 1606]) ht rfl hF rfl rfl rfl ?_
  refine zv_c1 ht rfl rfl (zv_c1 ht rfl rfl ?_)
  refine zv_gl (st' := [.ref 1606, .int 0, .ref 1606]) ht rfl hF rfl rfl rfl ?_
  refine zv_c1 ht rfl rfl ?_
  refine zv_iaE (j := 4) (x := gA S 1606 4) ht rfl rfl rfl rfl (zi_nat (k := 4) (by decide)) ⟨(Or.inl rfl), zi_in (k := 4) (n := 5) (by decide) (by decide)⟩ rfl ?_
  refine zv_is (j := 0) (x := gA S 1606 4) ht rfl rfl rfl rfl (zi_nat (k := 0) (by decide)) ⟨rfl, zi_in (k := 0) (n := 5) (by decide) (by decide)⟩ ?_
  refine zv_c1 ht rfl rfl ?_
  refine zv_gl (st' := [.ref 1606]) ht rfl hF rfl rfl rfl ?_
  refine zv_c1 ht rfl rfl (zv_c1 ht rfl rfl ?_)
  refine zv_gl (st' := [.ref 1606, .int 4, .ref 1606]) ht rfl hF rfl rfl rfl ?_
  refine zv_c1 ht rfl rfl ?_
  refine zv_iaE (j := 3) (x := gA S 1606 3) ht rfl rfl rfl rfl (zi_nat (k := 3) (by decide)) ⟨(Or.inl rfl), zi_in (k := 3) (n := 5) (by decide) (by decide)⟩ rfl ?_
  refine zv_is (j := 4) (x := gA S 1606 3) ht rfl rfl rfl rfl (zi_nat (k := 4) (by decide)) ⟨rfl, zi_in (k := 4) (n := 5) (by decide) (by decide)⟩ ?_
  refine zv_c1 ht rfl rfl ?_
  refine zv_gl (st' := [.ref 1606]) ht rfl hF rfl rfl rfl ?_
  refine zv_c1 ht rfl rfl (zv_c1 ht rfl rfl ?_)
  refine zv_gl (st' := [.ref 1606, .int 3, .ref 1606]) ht rfl hF rfl rfl rfl ?_
  refine zv_c1 ht rfl rfl ?_
  refine zv_iaE (j := 2) (x := gA S 1606 2) ht rfl rfl rfl rfl (zi_nat (k := 2) (by decide)) ⟨(Or.inl rfl), zi_in (k := 2) (n := 5) (by decide) (by decide)⟩ rfl ?_
  refine zv_c1 ht rfl rfl ?_
  refine zv_cl ht rfl rfl rfl rfl (by omega) (Nat.le_of_ble_eq_true rfl) (m_left (S := sA (sA S 1606 0 (gA S 1606 4)) 1606 4 (gA S 1606 3)) hF _ _ ?_)
  show zEv d 114 206 [.ref 1592, .int 0, .int (Int32.ofNat k), .int (hMix (k / 16) (gA S 1606 1) (gA S 1606 2) (gA S 1606 3)), .int (gA S 1596 ((rO true).getD k 0)), .int ((hL ((((gA S 1606 0) + (hMix (k / 16) (gA S 1606 1) (gA S 1606 2) (gA S 1606 3))) + (gA S 1596 ((rO true).getD k 0))) + (rK true (k / 16))) (Int32.ofNat ((rT true).getD k 0))) + (gA S 1606 4))] [.int (hL (gA S 1606 2) 10), .int 3, .ref 1606] (sA (sA S 1606 0 (gA S 1606 4)) 1606 4 (gA S 1606 3)) post
  refine zv_is (j := 3) (x := hL (gA S 1606 2) 10) ht rfl rfl rfl rfl (zi_nat (k := 3) (by decide)) ⟨rfl, zi_in (k := 3) (n := 5) (by decide) (by decide)⟩ ?_
  refine zv_c1 ht rfl rfl ?_
  refine zv_gl (st' := [.ref 1606]) ht rfl hF rfl rfl rfl ?_
  refine zv_c1 ht rfl rfl (zv_c1 ht rfl rfl ?_)
  refine zv_gl (st' := [.ref 1606, .int 2, .ref 1606]) ht rfl hF rfl rfl rfl ?_
  refine zv_c1 ht rfl rfl ?_
  refine zv_iaE (j := 1) (x := gA S 1606 1) ht rfl rfl rfl rfl (zi_nat (k := 1) (by decide)) ⟨(Or.inl rfl), zi_in (k := 1) (n := 5) (by decide) (by decide)⟩ rfl ?_
  refine zv_is (j := 2) (x := gA S 1606 1) ht rfl rfl rfl rfl (zi_nat (k := 2) (by decide)) ⟨rfl, zi_in (k := 2) (n := 5) (by decide) (by decide)⟩ ?_
  refine zv_c1 ht rfl rfl ?_
  refine zv_gl (st' := [.ref 1606]) ht rfl hF rfl rfl rfl ?_
  refine zv_c1 ht rfl rfl (zv_c1 ht rfl rfl ?_)
  refine zv_is (j := 1) (x := (hL ((((gA S 1606 0) + (hMix (k / 16) (gA S 1606 1) (gA S 1606 2) (gA S 1606 3))) + (gA S 1596 ((rO true).getD k 0))) + (rK true (k / 16))) (Int32.ofNat ((rT true).getD k 0))) + (gA S 1606 4)) ht rfl rfl rfl rfl (zi_nat (k := 1) (by decide)) ⟨rfl, zi_in (k := 1) (n := 5) (by decide) (by decide)⟩ ?_
  refine zv_iinc (L' := [.ref 1592, .int 0, .int (Int32.ofNat (k + 1)), .int (hMix (k / 16) (gA S 1606 1) (gA S 1606 2) (gA S 1606 3)), .int (gA S 1596 ((rO true).getD k 0)), .int ((hL ((((gA S 1606 0) + (hMix (k / 16) (gA S 1606 1) (gA S 1606 2) (gA S 1606 3))) + (gA S 1596 ((rO true).getD k 0))) + (rK true (k / 16))) (Int32.ofNat ((rT true).getD k 0))) + (gA S 1606 4))]) (i := 2) (x := Int32.ofNat (k + 1)) ht rfl rfl (zi_addE (a := k) (b := 1) rfl rfl) rfl ?_
  refine zv_c1 ht rfl rfl ?_
  exact zEv.wk (L := [.ref 1592, .int (Int32.ofNat 0), .int (Int32.ofNat (k + 1)), .retAddr 0, .retAddr 0, .retAddr 0]) (L' := [.ref 1592, .int 0, .int (Int32.ofNat (k + 1)), .int (hMix (k / 16) (gA S 1606 1) (gA S 1606 2) (gA S 1606 3)), .int (gA S 1596 ((rO true).getD k 0)), .int ((hL ((((gA S 1606 0) + (hMix (k / 16) (gA S 1606 1) (gA S 1606 2) (gA S 1606 3))) + (gA S 1596 ((rO true).getD k 0))) + (rK true (k / 16))) (Int32.ofNat ((rT true).getD k 0))) + (gA S 1606 4))]) (And.intro (Or.inl rfl) (And.intro (Or.inl rfl) (And.intro (Or.inl rfl) (And.intro (Or.inr rfl) (And.intro (Or.inr rfl) (And.intro (Or.inr rfl) trivial)))))) h1

noncomputable def go2f_s1 (S : zS) (k : Nat) : zS := sA (sA (sA (sA (sA S 1606 0 (gA S 1606 4)) 1606 4 (gA S 1606 3)) 1606 3 (hL (gA S 1606 2) 10)) 1606 2 (gA S 1606 1)) 1606 1 ((hL ((((gA S 1606 0) + (hMix (4 - (k / 16)) (gA S 1606 1) (gA S 1606 2) (gA S 1606 3))) + (gA S 1596 ((rO false).getD k 0))) + (rK false (k / 16))) (Int32.ofNat ((rT false).getD k 0))) + (gA S 1606 4))
theorem go2f {d : Nat} {S : zS} (hF : zFin true S) (hd : 1 ≤ d) (k : Nat)  (hk : k < 80) (ho : (rO false).getD k 0 < 16) (hro : gA S 1601 k = Int32.ofNat ((rO false).getD k 0)) (hrt : gA S 1603 k = Int32.ofNat ((rT false).getD k 0)) (hrk : gA S 1605 (k / 16) = rK false (k / 16)) {post : Outcome × zS → Prop} (h1 : zEv d 114 27 [.ref 1592, .int (Int32.ofNat 1), .int (Int32.ofNat (k + 1)), .retAddr 0, .retAddr 0, .retAddr 0] [] (go2f_s1 S k) post) : zEv d 114 27 [.ref 1592, .int 1, .int (Int32.ofNat k), .retAddr 0, .retAddr 0, .retAddr 0] [] S post := by
  have ht : ztab 114 = ztb114 := rfl
  refine zv_c1 ht rfl rfl (zv_c1 ht rfl rfl ?_)
  refine zv_br ht rfl rfl rfl (fun b1 => (show False from by have hq := b1; have hz : 80 ≤ k := (zi_leE (a := 80) (b := k) rfl rfl (by omega) (by omega)).mp hq; omega).elim) (fun b1 => ?_)
  refine zv_c1 ht rfl rfl ?_
  refine zv_br ht rfl rfl rfl (fun _ => ?_) (fun h => absurd (by decide) h)
  refine zv_c1 ht rfl rfl (zv_c1 ht rfl rfl (zv_c1 ht rfl rfl ?_))
  refine zv_ei (x := Int32.ofNat (k / 16)) ht rfl rfl (zi_nz (a := 16) rfl (by omega) (by omega)) (zi_divE (a := k) (b := 16) rfl rfl (by omega) (by omega)) ?_
  refine zv_e1 (x := Int32.ofNat (4 - (k / 16))) ht rfl rfl (zi_subE (a := 4) (b := k / 16) rfl rfl (by omega)) ?_
  refine zv_c1 ht rfl rfl ?_
  refine zv_gl (st' := [.ref 1606, .int (Int32.ofNat (4 - (k / 16)))]) ht rfl hF rfl rfl rfl ?_
  refine zv_c1 ht rfl rfl ?_
  refine zv_iaE (j := 1) (x := gA S 1606 1) ht rfl rfl rfl rfl (zi_nat (k := 1) (by decide)) ⟨(Or.inl rfl), zi_in (k := 1) (n := 5) (by decide) (by decide)⟩ rfl ?_
  refine zv_c1 ht rfl rfl ?_
  refine zv_gl (st' := [.ref 1606, .int (gA S 1606 1), .int (Int32.ofNat (4 - (k / 16)))]) ht rfl hF rfl rfl rfl ?_
  refine zv_c1 ht rfl rfl ?_
  refine zv_iaE (j := 2) (x := gA S 1606 2) ht rfl rfl rfl rfl (zi_nat (k := 2) (by decide)) ⟨(Or.inl rfl), zi_in (k := 2) (n := 5) (by decide) (by decide)⟩ rfl ?_
  refine zv_c1 ht rfl rfl ?_
  refine zv_gl (st' := [.ref 1606, .int (gA S 1606 2), .int (gA S 1606 1), .int (Int32.ofNat (4 - (k / 16)))]) ht rfl hF rfl rfl rfl ?_
  refine zv_c1 ht rfl rfl ?_
  refine zv_iaE (j := 3) (x := gA S 1606 3) ht rfl rfl rfl rfl (zi_nat (k := 3) (by decide)) ⟨(Or.inl rfl), zi_in (k := 3) (n := 5) (by decide) (by decide)⟩ rfl ?_
  refine zv_cl ht rfl rfl rfl rfl (by omega) (Nat.le_of_ble_eq_true rfl) (m_mix (S := S) hF (4 - (k / 16)) (by omega) _ _ _ ?_)
  show zEv d 114 71 [.ref 1592, .int 1, .int (Int32.ofNat k), .retAddr 0, .retAddr 0, .retAddr 0] [.int (hMix (4 - (k / 16)) (gA S 1606 1) (gA S 1606 2) (gA S 1606 3))] S post
  refine zv_c2 (L' := [.ref 1592, .int 1, .int (Int32.ofNat k), .int (hMix (4 - (k / 16)) (gA S 1606 1) (gA S 1606 2) (gA S 1606 3)), .retAddr 0, .retAddr 0]) ht rfl rfl ?_
  refine zv_c1 ht rfl rfl ?_
  refine zv_gl (st' := [.ref 1596]) ht rfl hF rfl rfl rfl ?_
  refine zv_c1 ht rfl rfl ?_
  refine zv_br ht rfl rfl rfl (fun _ => ?_) (fun h => absurd (by decide) h)
  refine zv_c1 ht rfl rfl ?_
  refine zv_gl (st' := [.ref 1601, .ref 1596]) ht rfl hF rfl rfl rfl ?_
  refine zv_c1 ht rfl rfl ?_
  refine zv_iaE (j := k) (x := Int32.ofNat ((rO false).getD k 0)) ht rfl rfl rfl rfl (zi_natE (a := k) rfl (by omega)) ⟨(Or.inl rfl), zi_inE (a := k) (n := 80) rfl (by omega) (by omega)⟩ hro ?_
  refine zv_iaE (j := (rO false).getD k 0) (x := gA S 1596 ((rO false).getD k 0)) ht rfl rfl rfl rfl (zi_natE (a := (rO false).getD k 0) rfl (by omega)) ⟨(Or.inl rfl), zi_inE (a := (rO false).getD k 0) (n := 64) rfl (by omega) (by omega)⟩ rfl ?_
  refine zv_c2 (L' := [.ref 1592, .int 1, .int (Int32.ofNat k), .int (hMix (4 - (k / 16)) (gA S 1606 1) (gA S 1606 2) (gA S 1606 3)), .int (gA S 1596 ((rO false).getD k 0)), .retAddr 0]) ht rfl rfl ?_
  refine zv_c1 ht rfl rfl ?_
  refine zv_gl (st' := [.ref 1606]) ht rfl hF rfl rfl rfl ?_
  refine zv_c1 ht rfl rfl ?_
  refine zv_iaE (j := 0) (x := gA S 1606 0) ht rfl rfl rfl rfl (zi_nat (k := 0) (by decide)) ⟨(Or.inl rfl), zi_in (k := 0) (n := 5) (by decide) (by decide)⟩ rfl ?_
  refine zv_c1 ht rfl rfl ?_
  refine zv_c1 (st' := [.int ((gA S 1606 0) + (hMix (4 - (k / 16)) (gA S 1606 1) (gA S 1606 2) (gA S 1606 3)))]) (S' := S) ht rfl rfl ?_
  refine zv_c1 ht rfl rfl ?_
  refine zv_c1 (st' := [.int (((gA S 1606 0) + (hMix (4 - (k / 16)) (gA S 1606 1) (gA S 1606 2) (gA S 1606 3))) + (gA S 1596 ((rO false).getD k 0)))]) (S' := S) ht rfl rfl ?_
  refine zv_c1 ht rfl rfl ?_
  refine zv_br ht rfl rfl rfl (fun _ => ?_) (fun h => absurd (by decide) h)
  refine zv_c1 ht rfl rfl ?_
  refine zv_gl (st' := [.ref 1605, .int (((gA S 1606 0) + (hMix (4 - (k / 16)) (gA S 1606 1) (gA S 1606 2) (gA S 1606 3))) + (gA S 1596 ((rO false).getD k 0)))]) ht rfl hF rfl rfl rfl ?_
  refine zv_c1 ht rfl rfl (zv_c1 ht rfl rfl ?_)
  refine zv_ei (x := Int32.ofNat (k / 16)) ht rfl rfl (zi_nz (a := 16) rfl (by omega) (by omega)) (zi_divE (a := k) (b := 16) rfl rfl (by omega) (by omega)) ?_
  refine zv_iaE (j := k / 16) (x := rK false (k / 16)) ht rfl rfl rfl rfl (zi_natE (a := k / 16) rfl (by omega)) ⟨(Or.inl rfl), zi_inE (a := k / 16) (n := 5) rfl (by omega) (by omega)⟩ hrk ?_
  refine zv_c1 (st' := [.int ((((gA S 1606 0) + (hMix (4 - (k / 16)) (gA S 1606 1) (gA S 1606 2) (gA S 1606 3))) + (gA S 1596 ((rO false).getD k 0))) + (rK false (k / 16)))]) (S' := S) ht rfl rfl ?_
  refine zv_c1 ht rfl rfl ?_
  refine zv_br ht rfl rfl rfl (fun _ => ?_) (fun h => absurd (by decide) h)
  refine zv_c1 ht rfl rfl ?_
  refine zv_gl (st' := [.ref 1603, .int ((((gA S 1606 0) + (hMix (4 - (k / 16)) (gA S 1606 1) (gA S 1606 2) (gA S 1606 3))) + (gA S 1596 ((rO false).getD k 0))) + (rK false (k / 16)))]) ht rfl hF rfl rfl rfl ?_
  refine zv_c1 ht rfl rfl ?_
  refine zv_iaE (j := k) (x := Int32.ofNat ((rT false).getD k 0)) ht rfl rfl rfl rfl (zi_natE (a := k) rfl (by omega)) ⟨(Or.inl rfl), zi_inE (a := k) (n := 80) rfl (by omega) (by omega)⟩ hrt ?_
  refine zv_cl ht rfl rfl rfl rfl (by omega) (Nat.le_of_ble_eq_true rfl) (m_left (S := S) hF _ _ ?_)
  show zEv d 114 157 [.ref 1592, .int 1, .int (Int32.ofNat k), .int (hMix (4 - (k / 16)) (gA S 1606 1) (gA S 1606 2) (gA S 1606 3)), .int (gA S 1596 ((rO false).getD k 0)), .retAddr 0] [.int (hL ((((gA S 1606 0) + (hMix (4 - (k / 16)) (gA S 1606 1) (gA S 1606 2) (gA S 1606 3))) + (gA S 1596 ((rO false).getD k 0))) + (rK false (k / 16))) (Int32.ofNat ((rT false).getD k 0)))] S post
  refine zv_c1 ht rfl rfl ?_
  refine zv_gl (st' := [.ref 1606, .int (hL ((((gA S 1606 0) + (hMix (4 - (k / 16)) (gA S 1606 1) (gA S 1606 2) (gA S 1606 3))) + (gA S 1596 ((rO false).getD k 0))) + (rK false (k / 16))) (Int32.ofNat ((rT false).getD k 0)))]) ht rfl hF rfl rfl rfl ?_
  refine zv_c1 ht rfl rfl ?_
  refine zv_iaE (j := 4) (x := gA S 1606 4) ht rfl rfl rfl rfl (zi_nat (k := 4) (by decide)) ⟨(Or.inl rfl), zi_in (k := 4) (n := 5) (by decide) (by decide)⟩ rfl ?_
  refine zv_c1 (st' := [.int ((hL ((((gA S 1606 0) + (hMix (4 - (k / 16)) (gA S 1606 1) (gA S 1606 2) (gA S 1606 3))) + (gA S 1596 ((rO false).getD k 0))) + (rK false (k / 16))) (Int32.ofNat ((rT false).getD k 0))) + (gA S 1606 4))]) (S' := S) ht rfl rfl ?_
  refine zv_c2 (L' := [.ref 1592, .int 1, .int (Int32.ofNat k), .int (hMix (4 - (k / 16)) (gA S 1606 1) (gA S 1606 2) (gA S 1606 3)), .int (gA S 1596 ((rO false).getD k 0)), .int ((hL ((((gA S 1606 0) + (hMix (4 - (k / 16)) (gA S 1606 1) (gA S 1606 2) (gA S 1606 3))) + (gA S 1596 ((rO false).getD k 0))) + (rK false (k / 16))) (Int32.ofNat ((rT false).getD k 0))) + (gA S 1606 4))]) ht rfl rfl ?_
  refine zv_c1 ht rfl rfl ?_
  refine zv_gl (st' := [.ref 1606]) ht rfl hF rfl rfl rfl ?_
  refine zv_c1 ht rfl rfl (zv_c1 ht rfl rfl ?_)
  refine zv_gl (st' := [.ref 1606, .int 0, .ref 1606]) ht rfl hF rfl rfl rfl ?_
  refine zv_c1 ht rfl rfl ?_
  refine zv_iaE (j := 4) (x := gA S 1606 4) ht rfl rfl rfl rfl (zi_nat (k := 4) (by decide)) ⟨(Or.inl rfl), zi_in (k := 4) (n := 5) (by decide) (by decide)⟩ rfl ?_
  refine zv_is (j := 0) (x := gA S 1606 4) ht rfl rfl rfl rfl (zi_nat (k := 0) (by decide)) ⟨rfl, zi_in (k := 0) (n := 5) (by decide) (by decide)⟩ ?_
  refine zv_c1 ht rfl rfl ?_
  refine zv_gl (st' := [.ref 1606]) ht rfl hF rfl rfl rfl ?_
  refine zv_c1 ht rfl rfl (zv_c1 ht rfl rfl ?_)
  refine zv_gl (st' := [.ref 1606, .int 4, .ref 1606]) ht rfl hF rfl rfl rfl ?_
  refine zv_c1 ht rfl rfl ?_
  refine zv_iaE (j := 3) (x := gA S 1606 3) ht rfl rfl rfl rfl (zi_nat (k := 3) (by decide)) ⟨(Or.inl rfl), zi_in (k := 3) (n := 5) (by decide) (by decide)⟩ rfl ?_
  refine zv_is (j := 4) (x := gA S 1606 3) ht rfl rfl rfl rfl (zi_nat (k := 4) (by decide)) ⟨rfl, zi_in (k := 4) (n := 5) (by decide) (by decide)⟩ ?_
  refine zv_c1 ht rfl rfl ?_
  refine zv_gl (st' := [.ref 1606]) ht rfl hF rfl rfl rfl ?_
  refine zv_c1 ht rfl rfl (zv_c1 ht rfl rfl ?_)
  refine zv_gl (st' := [.ref 1606, .int 3, .ref 1606]) ht rfl hF rfl rfl rfl ?_
  refine zv_c1 ht rfl rfl ?_
  refine zv_iaE (j := 2) (x := gA S 1606 2) ht rfl rfl rfl rfl (zi_nat (k := 2) (by decide)) ⟨(Or.inl rfl), zi_in (k := 2) (n := 5) (by decide) (by decide)⟩ rfl ?_
  refine zv_c1 ht rfl rfl ?_
  refine zv_cl ht rfl rfl rfl rfl (by omega) (Nat.le_of_ble_eq_true rfl) (m_left (S := sA (sA S 1606 0 (gA S 1606 4)) 1606 4 (gA S 1606 3)) hF _ _ ?_)
  show zEv d 114 206 [.ref 1592, .int 1, .int (Int32.ofNat k), .int (hMix (4 - (k / 16)) (gA S 1606 1) (gA S 1606 2) (gA S 1606 3)), .int (gA S 1596 ((rO false).getD k 0)), .int ((hL ((((gA S 1606 0) + (hMix (4 - (k / 16)) (gA S 1606 1) (gA S 1606 2) (gA S 1606 3))) + (gA S 1596 ((rO false).getD k 0))) + (rK false (k / 16))) (Int32.ofNat ((rT false).getD k 0))) + (gA S 1606 4))] [.int (hL (gA S 1606 2) 10), .int 3, .ref 1606] (sA (sA S 1606 0 (gA S 1606 4)) 1606 4 (gA S 1606 3)) post
  refine zv_is (j := 3) (x := hL (gA S 1606 2) 10) ht rfl rfl rfl rfl (zi_nat (k := 3) (by decide)) ⟨rfl, zi_in (k := 3) (n := 5) (by decide) (by decide)⟩ ?_
  refine zv_c1 ht rfl rfl ?_
  refine zv_gl (st' := [.ref 1606]) ht rfl hF rfl rfl rfl ?_
  refine zv_c1 ht rfl rfl (zv_c1 ht rfl rfl ?_)
  refine zv_gl (st' := [.ref 1606, .int 2, .ref 1606]) ht rfl hF rfl rfl rfl ?_
  refine zv_c1 ht rfl rfl ?_
  refine zv_iaE (j := 1) (x := gA S 1606 1) ht rfl rfl rfl rfl (zi_nat (k := 1) (by decide)) ⟨(Or.inl rfl), zi_in (k := 1) (n := 5) (by decide) (by decide)⟩ rfl ?_
  refine zv_is (j := 2) (x := gA S 1606 1) ht rfl rfl rfl rfl (zi_nat (k := 2) (by decide)) ⟨rfl, zi_in (k := 2) (n := 5) (by decide) (by decide)⟩ ?_
  refine zv_c1 ht rfl rfl ?_
  refine zv_gl (st' := [.ref 1606]) ht rfl hF rfl rfl rfl ?_
  refine zv_c1 ht rfl rfl (zv_c1 ht rfl rfl ?_)
  refine zv_is (j := 1) (x := (hL ((((gA S 1606 0) + (hMix (4 - (k / 16)) (gA S 1606 1) (gA S 1606 2) (gA S 1606 3))) + (gA S 1596 ((rO false).getD k 0))) + (rK false (k / 16))) (Int32.ofNat ((rT false).getD k 0))) + (gA S 1606 4)) ht rfl rfl rfl rfl (zi_nat (k := 1) (by decide)) ⟨rfl, zi_in (k := 1) (n := 5) (by decide) (by decide)⟩ ?_
  refine zv_iinc (L' := [.ref 1592, .int 1, .int (Int32.ofNat (k + 1)), .int (hMix (4 - (k / 16)) (gA S 1606 1) (gA S 1606 2) (gA S 1606 3)), .int (gA S 1596 ((rO false).getD k 0)), .int ((hL ((((gA S 1606 0) + (hMix (4 - (k / 16)) (gA S 1606 1) (gA S 1606 2) (gA S 1606 3))) + (gA S 1596 ((rO false).getD k 0))) + (rK false (k / 16))) (Int32.ofNat ((rT false).getD k 0))) + (gA S 1606 4))]) (i := 2) (x := Int32.ofNat (k + 1)) ht rfl rfl (zi_addE (a := k) (b := 1) rfl rfl) rfl ?_
  refine zv_c1 ht rfl rfl ?_
  exact zEv.wk (L := [.ref 1592, .int (Int32.ofNat 1), .int (Int32.ofNat (k + 1)), .retAddr 0, .retAddr 0, .retAddr 0]) (L' := [.ref 1592, .int 1, .int (Int32.ofNat (k + 1)), .int (hMix (4 - (k / 16)) (gA S 1606 1) (gA S 1606 2) (gA S 1606 3)), .int (gA S 1596 ((rO false).getD k 0)), .int ((hL ((((gA S 1606 0) + (hMix (4 - (k / 16)) (gA S 1606 1) (gA S 1606 2) (gA S 1606 3))) + (gA S 1596 ((rO false).getD k 0))) + (rK false (k / 16))) (Int32.ofNat ((rT false).getD k 0))) + (gA S 1606 4))]) (And.intro (Or.inl rfl) (And.intro (Or.inl rfl) (And.intro (Or.inl rfl) (And.intro (Or.inr rfl) (And.intro (Or.inr rfl) (And.intro (Or.inr rfl) trivial)))))) h1

theorem go3 {d : Nat} {S : zS} (hF : zFin true S) (sd : Int32)   {post : Outcome × zS → Prop} (h1 : post (.returned none, S)) : zEv d 114 27 [.ref 1592, .int sd, .int 80, .retAddr 0, .retAddr 0, .retAddr 0] [] S post := by
  have ht : ztab 114 = ztb114 := rfl
  refine zv_c1 ht rfl rfl (zv_c1 ht rfl rfl ?_)
  refine zv_br ht rfl rfl rfl (fun _ => ?_) (fun h => absurd (by decide) h)
  exact zv_rt ht rfl rfl rfl rfl h1

section H3
variable {d : Nat} {post : Outcome × zS → Prop}
theorem m_goes (l : Bool) {S : zS} (hF : zFin true S) (hd : 1 ≤ d) (hc : mC S)
    (h : ∀ S', zTK [] [1606] S S' → h5of (gA S' 1606) = rIt (gA S 1596) l (h5of (gA S 1597)) 80 → post (.returned none, S')) : zCall d 114 [.ref 1592, .int (bif l then 0 else 1)] S post := by
  refine go0 hF _ ?_
  refine zFill0 (L := fun k => [.ref 1592, .int (bif l then 0 else 1), .int (Int32.ofNat k), .retAddr 0, .retAddr 0, .retAddr 0]) 1606 5 (gA S 1597) ?_ ?_
  · intro k hk ih
    exact go1 (S := sAr S 1606 0 k (gA S 1597)) hF k _ (by omega) (fun b => by omega) (fun _ => ih)
  refine go1 (S := sAr S 1606 0 5 (gA S 1597)) hF 5 _ (by omega) (fun _ => ?_) (fun b => absurd (by omega) b)
  refine zLoop (L := fun k => [.ref 1592, .int (bif l then 0 else 1), .int (Int32.ofNat k), .retAddr 0, .retAddr 0, .retAddr 0]) 80 (fun k S' => zTK [] [1606] S S' ∧ h5of (gA S' 1606) = rIt (gA S 1596) l (h5of (gA S 1597)) k) ?_ ?_ 0 _ (by omega) ⟨zTK_sAr (by decide), h5of_congr (fun j hj => gA_sAr0 hj)⟩
  · rintro k S' hk ⟨k1, e1⟩ ih
    have hc1 := hc.k k1 (by decide)
    have hw : gA S' 1596 = gA S 1596 := k1.2.2 _ (by decide)
    cases l
    · refine go2f (S := S') (k1.fin hF) hd k hk (rO_lt _ hk) (hc1.2.2.2.1 k hk) (hc1.2.2.2.2.2.1 k hk) (hc1.2.2.2.2.2.2.2 _ (by omega)) (ih _ ⟨k1.tr ?_, ?_⟩)
      · exact ((((zTK_sA (by decide)).tr (zTK_sA (by decide))).tr (zTK_sA (by decide))).tr (zTK_sA (by decide))).tr (zTK_sA (by decide))
      · show _ = rStep (gA S 1596) false k (rIt (gA S 1596) false (h5of (gA S 1597)) k)
        rw [← e1, ← hw]
        rfl
    · refine go2t (S := S') (k1.fin hF) hd k hk (rO_lt _ hk) (hc1.2.2.1 k hk) (hc1.2.2.2.2.1 k hk) (hc1.2.2.2.2.2.2.1 _ (by omega)) (ih _ ⟨k1.tr ?_, ?_⟩)
      · exact ((((zTK_sA (by decide)).tr (zTK_sA (by decide))).tr (zTK_sA (by decide))).tr (zTK_sA (by decide))).tr (zTK_sA (by decide))
      · show _ = rStep (gA S 1596) true k (rIt (gA S 1596) true (h5of (gA S 1597)) k)
        rw [← e1, ← hw]
        rfl
  · rintro S' ⟨k1, e1⟩
    exact go3 (S := S') (k1.fin hF) _ (h S' k1 e1)
end H3
theorem rb0 {d : Nat} {S : zS} (hF : zFin true S) (a : Nat)   {post : Outcome × zS → Prop} (h1 : zEv d 113 2 [.ref 1592, .int (Int32.ofNat a), .int (Int32.ofNat 0), .retAddr 0, .retAddr 0, .retAddr 0, .retAddr 0, .retAddr 0] [] S post) : zCall d 113 [.ref 1592, .int (Int32.ofNat a)] S post := by
  have ht : ztab 113 = ztb113 := rfl
  show zEv d 113 0 [.ref 1592, .int (Int32.ofNat a), .retAddr 0, .retAddr 0, .retAddr 0, .retAddr 0, .retAddr 0, .retAddr 0] [] S post
  refine zv_c1 ht rfl rfl ?_
  refine zv_c2 (L' := [.ref 1592, .int (Int32.ofNat a), .int 0, .retAddr 0, .retAddr 0, .retAddr 0, .retAddr 0, .retAddr 0]) ht rfl rfl ?_
  exact h1

noncomputable def rb1_s1 (S : zS) (a : Nat) (k : Nat) : zS := sA (sA (sA (sA S 1596 k 0) 1596 k ((0 : Int32) ||| (gA S 1594 ((a + (4 * k)) + 3)))) 1596 k ((((0 : Int32) ||| (gA S 1594 ((a + (4 * k)) + 3))) <<< (8 &&& 31) : Int32) ||| (gA S 1594 ((a + (4 * k)) + 2)))) 1596 k ((((((0 : Int32) ||| (gA S 1594 ((a + (4 * k)) + 3))) <<< (8 &&& 31) : Int32) ||| (gA S 1594 ((a + (4 * k)) + 2))) <<< (8 &&& 31) : Int32) ||| (gA S 1594 ((a + (4 * k)) + 1)))
noncomputable def rb1_s2 (S : zS) (a : Nat) (k : Nat) : zS := sA (rb1_s1 S a k) 1596 k ((((((((0 : Int32) ||| (gA S 1594 ((a + (4 * k)) + 3))) <<< (8 &&& 31) : Int32) ||| (gA S 1594 ((a + (4 * k)) + 2))) <<< (8 &&& 31) : Int32) ||| (gA S 1594 ((a + (4 * k)) + 1))) <<< (8 &&& 31) : Int32) ||| (gA S 1594 (a + (4 * k))))
theorem rb1 {d : Nat} {S : zS} (hF : zFin true S) (a k : Nat)  (hk : k < 16) (ha : a ≤ 192) {post : Outcome × zS → Prop} (h1 : zEv d 113 2 [.ref 1592, .int (Int32.ofNat a), .int (Int32.ofNat (k + 1)), .retAddr 0, .retAddr 0, .retAddr 0, .retAddr 0, .retAddr 0] [] (rb1_s2 S a k) post) : zEv d 113 2 [.ref 1592, .int (Int32.ofNat a), .int (Int32.ofNat k), .retAddr 0, .retAddr 0, .retAddr 0, .retAddr 0, .retAddr 0] [] S post := by
  have ht : ztab 113 = ztb113 := rfl
  refine zv_c1 ht rfl rfl (zv_c1 ht rfl rfl ?_)
  refine zv_br ht rfl rfl rfl (fun b1 => (show False from by have hq := b1; have hz : 16 ≤ k := (zi_leE (a := 16) (b := k) rfl rfl (by omega) (by omega)).mp hq; omega).elim) (fun b1 => ?_)
  refine zv_c1 ht rfl rfl ?_
  refine zv_gl (st' := [.ref 1596]) ht rfl hF rfl rfl rfl ?_
  refine zv_c1 ht rfl rfl (zv_c1 ht rfl rfl ?_)
  refine zv_is (j := k) (x := 0) ht rfl rfl rfl rfl (zi_natE (a := k) rfl (by omega)) ⟨rfl, zi_inE (a := k) (n := 64) rfl (by omega) (by omega)⟩ ?_
  refine zv_c1 ht rfl rfl ?_
  refine zv_c2 (L' := [.ref 1592, .int (Int32.ofNat a), .int (Int32.ofNat k), .int 3, .retAddr 0, .retAddr 0, .retAddr 0, .retAddr 0]) ht rfl rfl ?_
  refine zv_c1 ht rfl rfl ?_
  refine zv_br ht rfl rfl rfl (fun h => absurd h (by decide)) (fun _ => ?_)
  refine zv_c1 ht rfl rfl ?_
  refine zv_gl (st' := [.ref 1596]) ht rfl hF rfl rfl rfl ?_
  refine zv_c1 ht rfl rfl (zv_c1 ht rfl rfl ?_)
  refine zv_gl (st' := [.ref 1596, .int (Int32.ofNat k), .ref 1596]) ht rfl hF rfl rfl rfl ?_
  refine zv_c1 ht rfl rfl ?_
  refine zv_iaE (j := k) (x := 0) ht rfl rfl rfl rfl (zi_natE (a := k) rfl (by omega)) ⟨(Or.inl rfl), zi_inE (a := k) (n := 64) rfl (by omega) (by omega)⟩ gA_sA_at ?_
  refine zv_c1 ht rfl rfl ?_
  refine zv_c1 (st' := [.int 0, .int (Int32.ofNat k), .ref 1596]) (S' := sA S 1596 k 0) ht rfl rfl ?_
  refine zv_c1 ht rfl rfl ?_
  refine zv_gl (st' := [.ref 1594, .int 0, .int (Int32.ofNat k), .ref 1596]) ht rfl hF rfl rfl rfl ?_
  refine zv_c1 ht rfl rfl (zv_c1 ht rfl rfl (zv_c1 ht rfl rfl ?_))
  refine zv_e1 (x := Int32.ofNat (4 * k)) ht rfl rfl (zi_mulE (a := 4) (b := k) rfl rfl) ?_
  refine zv_e1 (x := Int32.ofNat (a + (4 * k))) ht rfl rfl (zi_addE (a := a) (b := 4 * k) rfl rfl) ?_
  refine zv_c1 ht rfl rfl ?_
  refine zv_e1 (x := Int32.ofNat ((a + (4 * k)) + 3)) ht rfl rfl (zi_addE (a := a + (4 * k)) (b := 3) rfl rfl) ?_
  refine zv_iaE (j := (a + (4 * k)) + 3) (x := gA S 1594 ((a + (4 * k)) + 3)) ht rfl rfl rfl rfl (zi_natE (a := (a + (4 * k)) + 3) rfl (by omega)) ⟨(Or.inl rfl), zi_inE (a := (a + (4 * k)) + 3) (n := 256) rfl (by omega) (by omega)⟩ rfl ?_
  refine zv_c1 (st' := [.int ((0 : Int32) ||| (gA S 1594 ((a + (4 * k)) + 3))), .int (Int32.ofNat k), .ref 1596]) (S' := sA S 1596 k 0) ht rfl rfl ?_
  refine zv_is (j := k) (x := (0 : Int32) ||| (gA S 1594 ((a + (4 * k)) + 3))) ht rfl rfl rfl rfl (zi_natE (a := k) rfl (by omega)) ⟨rfl, zi_inE (a := k) (n := 64) rfl (by omega) (by omega)⟩ ?_
  refine zv_c2 (L' := [.ref 1592, .int (Int32.ofNat a), .int (Int32.ofNat k), .int 2, .retAddr 0, .retAddr 0, .retAddr 0, .retAddr 0]) ht rfl rfl ?_
  refine zv_c1 ht rfl rfl (zv_c1 ht rfl rfl ?_)
  refine zv_br ht rfl rfl rfl (fun h => absurd h (by decide)) (fun _ => ?_)
  refine zv_c1 ht rfl rfl ?_
  refine zv_gl (st' := [.ref 1596]) ht rfl hF rfl rfl rfl ?_
  refine zv_c1 ht rfl rfl (zv_c1 ht rfl rfl ?_)
  refine zv_gl (st' := [.ref 1596, .int (Int32.ofNat k), .ref 1596]) ht rfl hF rfl rfl rfl ?_
  refine zv_c1 ht rfl rfl ?_
  refine zv_iaE (j := k) (x := (0 : Int32) ||| (gA S 1594 ((a + (4 * k)) + 3))) ht rfl rfl rfl rfl (zi_natE (a := k) rfl (by omega)) ⟨(Or.inl rfl), zi_inE (a := k) (n := 64) rfl (by omega) (by omega)⟩ gA_sA_at ?_
  refine zv_c1 ht rfl rfl ?_
  refine zv_c1 (st' := [.int (((0 : Int32) ||| (gA S 1594 ((a + (4 * k)) + 3))) <<< (8 &&& 31) : Int32), .int (Int32.ofNat k), .ref 1596]) (S' := sA (sA S 1596 k 0) 1596 k ((0 : Int32) ||| (gA S 1594 ((a + (4 * k)) + 3)))) ht rfl rfl ?_
  refine zv_c1 ht rfl rfl ?_
  refine zv_gl (st' := [.ref 1594, .int (((0 : Int32) ||| (gA S 1594 ((a + (4 * k)) + 3))) <<< (8 &&& 31) : Int32), .int (Int32.ofNat k), .ref 1596]) ht rfl hF rfl rfl rfl ?_
  refine zv_c1 ht rfl rfl (zv_c1 ht rfl rfl (zv_c1 ht rfl rfl ?_))
  refine zv_e1 (x := Int32.ofNat (4 * k)) ht rfl rfl (zi_mulE (a := 4) (b := k) rfl rfl) ?_
  refine zv_e1 (x := Int32.ofNat (a + (4 * k))) ht rfl rfl (zi_addE (a := a) (b := 4 * k) rfl rfl) ?_
  refine zv_c1 ht rfl rfl ?_
  refine zv_e1 (x := Int32.ofNat ((a + (4 * k)) + 2)) ht rfl rfl (zi_addE (a := a + (4 * k)) (b := 2) rfl rfl) ?_
  refine zv_iaE (j := (a + (4 * k)) + 2) (x := gA S 1594 ((a + (4 * k)) + 2)) ht rfl rfl rfl rfl (zi_natE (a := (a + (4 * k)) + 2) rfl (by omega)) ⟨(Or.inl rfl), zi_inE (a := (a + (4 * k)) + 2) (n := 256) rfl (by omega) (by omega)⟩ rfl ?_
  refine zv_c1 (st' := [.int ((((0 : Int32) ||| (gA S 1594 ((a + (4 * k)) + 3))) <<< (8 &&& 31) : Int32) ||| (gA S 1594 ((a + (4 * k)) + 2))), .int (Int32.ofNat k), .ref 1596]) (S' := sA (sA S 1596 k 0) 1596 k ((0 : Int32) ||| (gA S 1594 ((a + (4 * k)) + 3)))) ht rfl rfl ?_
  refine zv_is (j := k) (x := (((0 : Int32) ||| (gA S 1594 ((a + (4 * k)) + 3))) <<< (8 &&& 31) : Int32) ||| (gA S 1594 ((a + (4 * k)) + 2))) ht rfl rfl rfl rfl (zi_natE (a := k) rfl (by omega)) ⟨rfl, zi_inE (a := k) (n := 64) rfl (by omega) (by omega)⟩ ?_
  refine zv_c2 (L' := [.ref 1592, .int (Int32.ofNat a), .int (Int32.ofNat k), .int 1, .retAddr 0, .retAddr 0, .retAddr 0, .retAddr 0]) ht rfl rfl ?_
  refine zv_c1 ht rfl rfl (zv_c1 ht rfl rfl ?_)
  refine zv_br ht rfl rfl rfl (fun h => absurd h (by decide)) (fun _ => ?_)
  refine zv_c1 ht rfl rfl ?_
  refine zv_gl (st' := [.ref 1596]) ht rfl hF rfl rfl rfl ?_
  refine zv_c1 ht rfl rfl (zv_c1 ht rfl rfl ?_)
  refine zv_gl (st' := [.ref 1596, .int (Int32.ofNat k), .ref 1596]) ht rfl hF rfl rfl rfl ?_
  refine zv_c1 ht rfl rfl ?_
  refine zv_iaE (j := k) (x := (((0 : Int32) ||| (gA S 1594 ((a + (4 * k)) + 3))) <<< (8 &&& 31) : Int32) ||| (gA S 1594 ((a + (4 * k)) + 2))) ht rfl rfl rfl rfl (zi_natE (a := k) rfl (by omega)) ⟨(Or.inl rfl), zi_inE (a := k) (n := 64) rfl (by omega) (by omega)⟩ gA_sA_at ?_
  refine zv_c1 ht rfl rfl ?_
  refine zv_c1 (st' := [.int (((((0 : Int32) ||| (gA S 1594 ((a + (4 * k)) + 3))) <<< (8 &&& 31) : Int32) ||| (gA S 1594 ((a + (4 * k)) + 2))) <<< (8 &&& 31) : Int32), .int (Int32.ofNat k), .ref 1596]) (S' := sA (sA (sA S 1596 k 0) 1596 k ((0 : Int32) ||| (gA S 1594 ((a + (4 * k)) + 3)))) 1596 k ((((0 : Int32) ||| (gA S 1594 ((a + (4 * k)) + 3))) <<< (8 &&& 31) : Int32) ||| (gA S 1594 ((a + (4 * k)) + 2)))) ht rfl rfl ?_
  refine zv_c1 ht rfl rfl ?_
  refine zv_gl (st' := [.ref 1594, .int (((((0 : Int32) ||| (gA S 1594 ((a + (4 * k)) + 3))) <<< (8 &&& 31) : Int32) ||| (gA S 1594 ((a + (4 * k)) + 2))) <<< (8 &&& 31) : Int32), .int (Int32.ofNat k), .ref 1596]) ht rfl hF rfl rfl rfl ?_
  refine zv_c1 ht rfl rfl (zv_c1 ht rfl rfl (zv_c1 ht rfl rfl ?_))
  refine zv_e1 (x := Int32.ofNat (4 * k)) ht rfl rfl (zi_mulE (a := 4) (b := k) rfl rfl) ?_
  refine zv_e1 (x := Int32.ofNat (a + (4 * k))) ht rfl rfl (zi_addE (a := a) (b := 4 * k) rfl rfl) ?_
  refine zv_c1 ht rfl rfl ?_
  refine zv_e1 (x := Int32.ofNat ((a + (4 * k)) + 1)) ht rfl rfl (zi_addE (a := a + (4 * k)) (b := 1) rfl rfl) ?_
  refine zv_iaE (j := (a + (4 * k)) + 1) (x := gA S 1594 ((a + (4 * k)) + 1)) ht rfl rfl rfl rfl (zi_natE (a := (a + (4 * k)) + 1) rfl (by omega)) ⟨(Or.inl rfl), zi_inE (a := (a + (4 * k)) + 1) (n := 256) rfl (by omega) (by omega)⟩ rfl ?_
  refine zv_c1 (st' := [.int ((((((0 : Int32) ||| (gA S 1594 ((a + (4 * k)) + 3))) <<< (8 &&& 31) : Int32) ||| (gA S 1594 ((a + (4 * k)) + 2))) <<< (8 &&& 31) : Int32) ||| (gA S 1594 ((a + (4 * k)) + 1))), .int (Int32.ofNat k), .ref 1596]) (S' := sA (sA (sA S 1596 k 0) 1596 k ((0 : Int32) ||| (gA S 1594 ((a + (4 * k)) + 3)))) 1596 k ((((0 : Int32) ||| (gA S 1594 ((a + (4 * k)) + 3))) <<< (8 &&& 31) : Int32) ||| (gA S 1594 ((a + (4 * k)) + 2)))) ht rfl rfl ?_
  refine zv_is (j := k) (x := (((((0 : Int32) ||| (gA S 1594 ((a + (4 * k)) + 3))) <<< (8 &&& 31) : Int32) ||| (gA S 1594 ((a + (4 * k)) + 2))) <<< (8 &&& 31) : Int32) ||| (gA S 1594 ((a + (4 * k)) + 1))) ht rfl rfl rfl rfl (zi_natE (a := k) rfl (by omega)) ⟨rfl, zi_inE (a := k) (n := 64) rfl (by omega) (by omega)⟩ ?_
  refine zv_c2 (L' := [.ref 1592, .int (Int32.ofNat a), .int (Int32.ofNat k), .int 0, .retAddr 0, .retAddr 0, .retAddr 0, .retAddr 0]) ht rfl rfl ?_
  refine zv_c1 ht rfl rfl (zv_c1 ht rfl rfl ?_)
  refine zv_br ht rfl rfl rfl (fun h => absurd h (by decide)) (fun _ => ?_)
  refine zv_c1 ht rfl rfl ?_
  refine zv_gl (st' := [.ref 1596]) ht rfl hF rfl rfl rfl ?_
  refine zv_c1 ht rfl rfl (zv_c1 ht rfl rfl ?_)
  refine zv_gl (st' := [.ref 1596, .int (Int32.ofNat k), .ref 1596]) ht rfl hF rfl rfl rfl ?_
  refine zv_c1 ht rfl rfl ?_
  refine zv_iaE (j := k) (x := (((((0 : Int32) ||| (gA S 1594 ((a + (4 * k)) + 3))) <<< (8 &&& 31) : Int32) ||| (gA S 1594 ((a + (4 * k)) + 2))) <<< (8 &&& 31) : Int32) ||| (gA S 1594 ((a + (4 * k)) + 1))) ht rfl rfl rfl rfl (zi_natE (a := k) rfl (by omega)) ⟨(Or.inl rfl), zi_inE (a := k) (n := 64) rfl (by omega) (by omega)⟩ gA_sA_at ?_
  refine zv_c1 ht rfl rfl ?_
  refine zv_c1 (st' := [.int (((((((0 : Int32) ||| (gA S 1594 ((a + (4 * k)) + 3))) <<< (8 &&& 31) : Int32) ||| (gA S 1594 ((a + (4 * k)) + 2))) <<< (8 &&& 31) : Int32) ||| (gA S 1594 ((a + (4 * k)) + 1))) <<< (8 &&& 31) : Int32), .int (Int32.ofNat k), .ref 1596]) (S' := rb1_s1 S a k) ht rfl rfl ?_
  refine zv_c1 ht rfl rfl ?_
  refine zv_gl (st' := [.ref 1594, .int (((((((0 : Int32) ||| (gA S 1594 ((a + (4 * k)) + 3))) <<< (8 &&& 31) : Int32) ||| (gA S 1594 ((a + (4 * k)) + 2))) <<< (8 &&& 31) : Int32) ||| (gA S 1594 ((a + (4 * k)) + 1))) <<< (8 &&& 31) : Int32), .int (Int32.ofNat k), .ref 1596]) ht rfl hF rfl rfl rfl ?_
  refine zv_c1 ht rfl rfl (zv_c1 ht rfl rfl (zv_c1 ht rfl rfl ?_))
  refine zv_e1 (x := Int32.ofNat (4 * k)) ht rfl rfl (zi_mulE (a := 4) (b := k) rfl rfl) ?_
  refine zv_e1 (x := Int32.ofNat (a + (4 * k))) ht rfl rfl (zi_addE (a := a) (b := 4 * k) rfl rfl) ?_
  refine zv_c1 ht rfl rfl ?_
  refine zv_e1 (x := Int32.ofNat (a + (4 * k))) ht rfl rfl (zi_addE (a := a + (4 * k)) (b := 0) rfl rfl) ?_
  refine zv_iaE (j := a + (4 * k)) (x := gA S 1594 (a + (4 * k))) ht rfl rfl rfl rfl (zi_natE (a := a + (4 * k)) rfl (by omega)) ⟨(Or.inl rfl), zi_inE (a := a + (4 * k)) (n := 256) rfl (by omega) (by omega)⟩ rfl ?_
  refine zv_c1 (st' := [.int ((((((((0 : Int32) ||| (gA S 1594 ((a + (4 * k)) + 3))) <<< (8 &&& 31) : Int32) ||| (gA S 1594 ((a + (4 * k)) + 2))) <<< (8 &&& 31) : Int32) ||| (gA S 1594 ((a + (4 * k)) + 1))) <<< (8 &&& 31) : Int32) ||| (gA S 1594 (a + (4 * k)))), .int (Int32.ofNat k), .ref 1596]) (S' := rb1_s1 S a k) ht rfl rfl ?_
  refine zv_is (j := k) (x := (((((((0 : Int32) ||| (gA S 1594 ((a + (4 * k)) + 3))) <<< (8 &&& 31) : Int32) ||| (gA S 1594 ((a + (4 * k)) + 2))) <<< (8 &&& 31) : Int32) ||| (gA S 1594 ((a + (4 * k)) + 1))) <<< (8 &&& 31) : Int32) ||| (gA S 1594 (a + (4 * k)))) ht rfl rfl rfl rfl (zi_natE (a := k) rfl (by omega)) ⟨rfl, zi_inE (a := k) (n := 64) rfl (by omega) (by omega)⟩ ?_
  refine zv_c2 (L' := [.ref 1592, .int (Int32.ofNat a), .int (Int32.ofNat k), .int (-1), .retAddr 0, .retAddr 0, .retAddr 0, .retAddr 0]) ht rfl rfl ?_
  refine zv_c1 ht rfl rfl (zv_c1 ht rfl rfl ?_)
  refine zv_br ht rfl rfl rfl (fun _ => ?_) (fun h => absurd (by decide) h)
  refine zv_iinc (L' := [.ref 1592, .int (Int32.ofNat a), .int (Int32.ofNat (k + 1)), .int (-1), .retAddr 0, .retAddr 0, .retAddr 0, .retAddr 0]) (i := 2) (x := Int32.ofNat (k + 1)) ht rfl rfl (zi_addE (a := k) (b := 1) rfl rfl) rfl ?_
  refine zv_c1 ht rfl rfl ?_
  exact zEv.wk (L := [.ref 1592, .int (Int32.ofNat a), .int (Int32.ofNat (k + 1)), .retAddr 0, .retAddr 0, .retAddr 0, .retAddr 0, .retAddr 0]) (L' := [.ref 1592, .int (Int32.ofNat a), .int (Int32.ofNat (k + 1)), .int (-1), .retAddr 0, .retAddr 0, .retAddr 0, .retAddr 0]) (And.intro (Or.inl rfl) (And.intro (Or.inl rfl) (And.intro (Or.inl rfl) (And.intro (Or.inr rfl) (And.intro (Or.inl rfl) (And.intro (Or.inl rfl) (And.intro (Or.inl rfl) (And.intro (Or.inl rfl) trivial)))))))) h1

noncomputable def rb2_s1 (S : zS) (G1 : zS) (G2 : zS) : zS := sA (sA (sA (sA G2 1597 1 (((gA S 1597 2) + (gA G1 1606 3)) + (gA G2 1606 4))) 1597 2 (((gA S 1597 3) + (gA G1 1606 4)) + (gA G2 1606 0))) 1597 3 (((gA S 1597 4) + (gA G1 1606 0)) + (gA G2 1606 1))) 1597 4 (((gA S 1597 0) + (gA G1 1606 1)) + (gA G2 1606 2))
theorem rb2 {d : Nat} {S : zS} (hF : zFin true S) (hd : 2 ≤ d) (a : Nat)  (ha : a ≤ 192) (hc : mC S) {post : Outcome × zS → Prop} (h1 : ∀ G1 : zS, (zTK [] [1606] S G1) → (h5of (gA G1 1606) = rIt (gA S 1596) true (h5of (gA S 1597)) 80) → ∀ G2 : zS, (zTK [] [1606] G1 G2) → (h5of (gA G2 1606) = rIt (gA G1 1596) false (h5of (gA G1 1597)) 80) → post (.returned none, sA (rb2_s1 S G1 G2) 1597 0 (((gA S 1597 1) + (gA G1 1606 2)) + (gA G2 1606 3)))) : zEv d 113 2 [.ref 1592, .int (Int32.ofNat a), .int 16, .retAddr 0, .retAddr 0, .retAddr 0, .retAddr 0, .retAddr 0] [] S post := by
  have ht : ztab 113 = ztb113 := rfl
  refine zv_c1 ht rfl rfl (zv_c1 ht rfl rfl ?_)
  refine zv_br ht rfl rfl rfl (fun _ => ?_) (fun h => absurd (by decide) h)
  refine zv_c1 ht rfl rfl (zv_c1 ht rfl rfl ?_)
  refine zv_cl ht rfl rfl rfl rfl (by omega) (Nat.le_of_ble_eq_true rfl) (m_goes true (S := S) hF (by omega) hc (fun G1 kG1 eG1 => ?_))
  show zEv d 113 66 [.ref 1592, .int (Int32.ofNat a), .int 16, .retAddr 0, .retAddr 0, .retAddr 0, .retAddr 0, .retAddr 0] [] G1 post
  refine zv_c1 ht rfl rfl ?_
  refine zv_gl (st' := [.ref 1606]) ht rfl (kG1.fin hF) rfl rfl rfl ?_
  refine zv_c1 ht rfl rfl ?_
  refine zv_iaE (j := 0) (x := gA G1 1606 0) ht rfl rfl rfl rfl (zi_nat (k := 0) (by decide)) ⟨(Or.inl rfl), zi_in (k := 0) (n := 5) (by decide) (by decide)⟩ rfl ?_
  refine zv_c2 (L' := [.ref 1592, .int (Int32.ofNat a), .int (gA G1 1606 0), .retAddr 0, .retAddr 0, .retAddr 0, .retAddr 0, .retAddr 0]) ht rfl rfl ?_
  refine zv_c1 ht rfl rfl ?_
  refine zv_gl (st' := [.ref 1606]) ht rfl (kG1.fin hF) rfl rfl rfl ?_
  refine zv_c1 ht rfl rfl ?_
  refine zv_iaE (j := 1) (x := gA G1 1606 1) ht rfl rfl rfl rfl (zi_nat (k := 1) (by decide)) ⟨(Or.inl rfl), zi_in (k := 1) (n := 5) (by decide) (by decide)⟩ rfl ?_
  refine zv_c2 (L' := [.ref 1592, .int (Int32.ofNat a), .int (gA G1 1606 0), .int (gA G1 1606 1), .retAddr 0, .retAddr 0, .retAddr 0, .retAddr 0]) ht rfl rfl ?_
  refine zv_c1 ht rfl rfl ?_
  refine zv_gl (st' := [.ref 1606]) ht rfl (kG1.fin hF) rfl rfl rfl ?_
  refine zv_c1 ht rfl rfl ?_
  refine zv_iaE (j := 2) (x := gA G1 1606 2) ht rfl rfl rfl rfl (zi_nat (k := 2) (by decide)) ⟨(Or.inl rfl), zi_in (k := 2) (n := 5) (by decide) (by decide)⟩ rfl ?_
  refine zv_c2 (L' := [.ref 1592, .int (Int32.ofNat a), .int (gA G1 1606 0), .int (gA G1 1606 1), .int (gA G1 1606 2), .retAddr 0, .retAddr 0, .retAddr 0]) ht rfl rfl ?_
  refine zv_c1 ht rfl rfl ?_
  refine zv_gl (st' := [.ref 1606]) ht rfl (kG1.fin hF) rfl rfl rfl ?_
  refine zv_c1 ht rfl rfl ?_
  refine zv_iaE (j := 3) (x := gA G1 1606 3) ht rfl rfl rfl rfl (zi_nat (k := 3) (by decide)) ⟨(Or.inl rfl), zi_in (k := 3) (n := 5) (by decide) (by decide)⟩ rfl ?_
  refine zv_c2 (L' := [.ref 1592, .int (Int32.ofNat a), .int (gA G1 1606 0), .int (gA G1 1606 1), .int (gA G1 1606 2), .int (gA G1 1606 3), .retAddr 0, .retAddr 0]) ht rfl rfl ?_
  refine zv_c1 ht rfl rfl ?_
  refine zv_gl (st' := [.ref 1606]) ht rfl (kG1.fin hF) rfl rfl rfl ?_
  refine zv_c1 ht rfl rfl ?_
  refine zv_iaE (j := 4) (x := gA G1 1606 4) ht rfl rfl rfl rfl (zi_nat (k := 4) (by decide)) ⟨(Or.inl rfl), zi_in (k := 4) (n := 5) (by decide) (by decide)⟩ rfl ?_
  refine zv_c2 (L' := [.ref 1592, .int (Int32.ofNat a), .int (gA G1 1606 0), .int (gA G1 1606 1), .int (gA G1 1606 2), .int (gA G1 1606 3), .int (gA G1 1606 4), .retAddr 0]) ht rfl rfl ?_
  refine zv_c1 ht rfl rfl (zv_c1 ht rfl rfl ?_)
  refine zv_cl ht rfl rfl rfl rfl (by omega) (Nat.le_of_ble_eq_true rfl) (m_goes false (S := G1) (kG1.fin hF) (by omega) (hc.k kG1 (by decide)) (fun G2 kG2 eG2 => ?_))
  show zEv d 113 109 [.ref 1592, .int (Int32.ofNat a), .int (gA G1 1606 0), .int (gA G1 1606 1), .int (gA G1 1606 2), .int (gA G1 1606 3), .int (gA G1 1606 4), .retAddr 0] [] G2 post
  refine zv_c1 ht rfl rfl ?_
  refine zv_gl (st' := [.ref 1597]) ht rfl (kG2.fin (kG1.fin hF)) rfl rfl rfl ?_
  refine zv_c1 ht rfl rfl ?_
  refine zv_iaE (j := 1) (x := gA S 1597 1) ht rfl rfl rfl rfl (zi_nat (k := 1) (by decide)) ⟨(Or.inl rfl), zi_in (k := 1) (n := 8) (by decide) (by decide)⟩ (Eq.trans (kG2.A (by decide)) (kG1.A (by decide))) ?_
  refine zv_c1 ht rfl rfl ?_
  refine zv_c1 (st' := [.int ((gA S 1597 1) + (gA G1 1606 2))]) (S' := G2) ht rfl rfl ?_
  refine zv_c1 ht rfl rfl ?_
  refine zv_gl (st' := [.ref 1606, .int ((gA S 1597 1) + (gA G1 1606 2))]) ht rfl (kG2.fin (kG1.fin hF)) rfl rfl rfl ?_
  refine zv_c1 ht rfl rfl ?_
  refine zv_iaE (j := 3) (x := gA G2 1606 3) ht rfl rfl rfl rfl (zi_nat (k := 3) (by decide)) ⟨(Or.inl rfl), zi_in (k := 3) (n := 5) (by decide) (by decide)⟩ rfl ?_
  refine zv_c1 (st' := [.int (((gA S 1597 1) + (gA G1 1606 2)) + (gA G2 1606 3))]) (S' := G2) ht rfl rfl ?_
  refine zv_c2 (L' := [.ref 1592, .int (Int32.ofNat a), .int (gA G1 1606 0), .int (gA G1 1606 1), .int (gA G1 1606 2), .int (gA G1 1606 3), .int (gA G1 1606 4), .int (((gA S 1597 1) + (gA G1 1606 2)) + (gA G2 1606 3))]) ht rfl rfl ?_
  refine zv_c1 ht rfl rfl ?_
  refine zv_gl (st' := [.ref 1597]) ht rfl (kG2.fin (kG1.fin hF)) rfl rfl rfl ?_
  refine zv_c1 ht rfl rfl (zv_c1 ht rfl rfl ?_)
  refine zv_gl (st' := [.ref 1597, .int 1, .ref 1597]) ht rfl (kG2.fin (kG1.fin hF)) rfl rfl rfl ?_
  refine zv_c1 ht rfl rfl ?_
  refine zv_iaE (j := 2) (x := gA S 1597 2) ht rfl rfl rfl rfl (zi_nat (k := 2) (by decide)) ⟨(Or.inl rfl), zi_in (k := 2) (n := 8) (by decide) (by decide)⟩ (Eq.trans (kG2.A (by decide)) (kG1.A (by decide))) ?_
  refine zv_c1 ht rfl rfl ?_
  refine zv_c1 (st' := [.int ((gA S 1597 2) + (gA G1 1606 3)), .int 1, .ref 1597]) (S' := G2) ht rfl rfl ?_
  refine zv_c1 ht rfl rfl ?_
  refine zv_gl (st' := [.ref 1606, .int ((gA S 1597 2) + (gA G1 1606 3)), .int 1, .ref 1597]) ht rfl (kG2.fin (kG1.fin hF)) rfl rfl rfl ?_
  refine zv_c1 ht rfl rfl ?_
  refine zv_iaE (j := 4) (x := gA G2 1606 4) ht rfl rfl rfl rfl (zi_nat (k := 4) (by decide)) ⟨(Or.inl rfl), zi_in (k := 4) (n := 5) (by decide) (by decide)⟩ rfl ?_
  refine zv_c1 (st' := [.int (((gA S 1597 2) + (gA G1 1606 3)) + (gA G2 1606 4)), .int 1, .ref 1597]) (S' := G2) ht rfl rfl ?_
  refine zv_is (j := 1) (x := ((gA S 1597 2) + (gA G1 1606 3)) + (gA G2 1606 4)) ht rfl rfl rfl rfl (zi_nat (k := 1) (by decide)) ⟨rfl, zi_in (k := 1) (n := 8) (by decide) (by decide)⟩ ?_
  refine zv_c1 ht rfl rfl ?_
  refine zv_gl (st' := [.ref 1597]) ht rfl (kG2.fin (kG1.fin hF)) rfl rfl rfl ?_
  refine zv_c1 ht rfl rfl (zv_c1 ht rfl rfl ?_)
  refine zv_gl (st' := [.ref 1597, .int 2, .ref 1597]) ht rfl (kG2.fin (kG1.fin hF)) rfl rfl rfl ?_
  refine zv_c1 ht rfl rfl ?_
  refine zv_iaE (j := 3) (x := gA S 1597 3) ht rfl rfl rfl rfl (zi_nat (k := 3) (by decide)) ⟨(Or.inl rfl), zi_in (k := 3) (n := 8) (by decide) (by decide)⟩ (Eq.trans (kG2.A (by decide)) (kG1.A (by decide))) ?_
  refine zv_c1 ht rfl rfl ?_
  refine zv_c1 (st' := [.int ((gA S 1597 3) + (gA G1 1606 4)), .int 2, .ref 1597]) (S' := sA G2 1597 1 (((gA S 1597 2) + (gA G1 1606 3)) + (gA G2 1606 4))) ht rfl rfl ?_
  refine zv_c1 ht rfl rfl ?_
  refine zv_gl (st' := [.ref 1606, .int ((gA S 1597 3) + (gA G1 1606 4)), .int 2, .ref 1597]) ht rfl (kG2.fin (kG1.fin hF)) rfl rfl rfl ?_
  refine zv_c1 ht rfl rfl ?_
  refine zv_iaE (j := 0) (x := gA G2 1606 0) ht rfl rfl rfl rfl (zi_nat (k := 0) (by decide)) ⟨(Or.inl rfl), zi_in (k := 0) (n := 5) (by decide) (by decide)⟩ rfl ?_
  refine zv_c1 (st' := [.int (((gA S 1597 3) + (gA G1 1606 4)) + (gA G2 1606 0)), .int 2, .ref 1597]) (S' := sA G2 1597 1 (((gA S 1597 2) + (gA G1 1606 3)) + (gA G2 1606 4))) ht rfl rfl ?_
  refine zv_is (j := 2) (x := ((gA S 1597 3) + (gA G1 1606 4)) + (gA G2 1606 0)) ht rfl rfl rfl rfl (zi_nat (k := 2) (by decide)) ⟨rfl, zi_in (k := 2) (n := 8) (by decide) (by decide)⟩ ?_
  refine zv_c1 ht rfl rfl ?_
  refine zv_gl (st' := [.ref 1597]) ht rfl (kG2.fin (kG1.fin hF)) rfl rfl rfl ?_
  refine zv_c1 ht rfl rfl (zv_c1 ht rfl rfl ?_)
  refine zv_gl (st' := [.ref 1597, .int 3, .ref 1597]) ht rfl (kG2.fin (kG1.fin hF)) rfl rfl rfl ?_
  refine zv_c1 ht rfl rfl ?_
  refine zv_iaE (j := 4) (x := gA S 1597 4) ht rfl rfl rfl rfl (zi_nat (k := 4) (by decide)) ⟨(Or.inl rfl), zi_in (k := 4) (n := 8) (by decide) (by decide)⟩ (Eq.trans (kG2.A (by decide)) (kG1.A (by decide))) ?_
  refine zv_c1 ht rfl rfl ?_
  refine zv_c1 (st' := [.int ((gA S 1597 4) + (gA G1 1606 0)), .int 3, .ref 1597]) (S' := sA (sA G2 1597 1 (((gA S 1597 2) + (gA G1 1606 3)) + (gA G2 1606 4))) 1597 2 (((gA S 1597 3) + (gA G1 1606 4)) + (gA G2 1606 0))) ht rfl rfl ?_
  refine zv_c1 ht rfl rfl ?_
  refine zv_gl (st' := [.ref 1606, .int ((gA S 1597 4) + (gA G1 1606 0)), .int 3, .ref 1597]) ht rfl (kG2.fin (kG1.fin hF)) rfl rfl rfl ?_
  refine zv_c1 ht rfl rfl ?_
  refine zv_iaE (j := 1) (x := gA G2 1606 1) ht rfl rfl rfl rfl (zi_nat (k := 1) (by decide)) ⟨(Or.inl rfl), zi_in (k := 1) (n := 5) (by decide) (by decide)⟩ rfl ?_
  refine zv_c1 (st' := [.int (((gA S 1597 4) + (gA G1 1606 0)) + (gA G2 1606 1)), .int 3, .ref 1597]) (S' := sA (sA G2 1597 1 (((gA S 1597 2) + (gA G1 1606 3)) + (gA G2 1606 4))) 1597 2 (((gA S 1597 3) + (gA G1 1606 4)) + (gA G2 1606 0))) ht rfl rfl ?_
  refine zv_is (j := 3) (x := ((gA S 1597 4) + (gA G1 1606 0)) + (gA G2 1606 1)) ht rfl rfl rfl rfl (zi_nat (k := 3) (by decide)) ⟨rfl, zi_in (k := 3) (n := 8) (by decide) (by decide)⟩ ?_
  refine zv_c1 ht rfl rfl ?_
  refine zv_gl (st' := [.ref 1597]) ht rfl (kG2.fin (kG1.fin hF)) rfl rfl rfl ?_
  refine zv_c1 ht rfl rfl (zv_c1 ht rfl rfl ?_)
  refine zv_gl (st' := [.ref 1597, .int 4, .ref 1597]) ht rfl (kG2.fin (kG1.fin hF)) rfl rfl rfl ?_
  refine zv_c1 ht rfl rfl ?_
  refine zv_iaE (j := 0) (x := gA S 1597 0) ht rfl rfl rfl rfl (zi_nat (k := 0) (by decide)) ⟨(Or.inl rfl), zi_in (k := 0) (n := 8) (by decide) (by decide)⟩ (Eq.trans (kG2.A (by decide)) (kG1.A (by decide))) ?_
  refine zv_c1 ht rfl rfl ?_
  refine zv_c1 (st' := [.int ((gA S 1597 0) + (gA G1 1606 1)), .int 4, .ref 1597]) (S' := sA (sA (sA G2 1597 1 (((gA S 1597 2) + (gA G1 1606 3)) + (gA G2 1606 4))) 1597 2 (((gA S 1597 3) + (gA G1 1606 4)) + (gA G2 1606 0))) 1597 3 (((gA S 1597 4) + (gA G1 1606 0)) + (gA G2 1606 1))) ht rfl rfl ?_
  refine zv_c1 ht rfl rfl ?_
  refine zv_gl (st' := [.ref 1606, .int ((gA S 1597 0) + (gA G1 1606 1)), .int 4, .ref 1597]) ht rfl (kG2.fin (kG1.fin hF)) rfl rfl rfl ?_
  refine zv_c1 ht rfl rfl ?_
  refine zv_iaE (j := 2) (x := gA G2 1606 2) ht rfl rfl rfl rfl (zi_nat (k := 2) (by decide)) ⟨(Or.inl rfl), zi_in (k := 2) (n := 5) (by decide) (by decide)⟩ rfl ?_
  refine zv_c1 (st' := [.int (((gA S 1597 0) + (gA G1 1606 1)) + (gA G2 1606 2)), .int 4, .ref 1597]) (S' := sA (sA (sA G2 1597 1 (((gA S 1597 2) + (gA G1 1606 3)) + (gA G2 1606 4))) 1597 2 (((gA S 1597 3) + (gA G1 1606 4)) + (gA G2 1606 0))) 1597 3 (((gA S 1597 4) + (gA G1 1606 0)) + (gA G2 1606 1))) ht rfl rfl ?_
  refine zv_is (j := 4) (x := ((gA S 1597 0) + (gA G1 1606 1)) + (gA G2 1606 2)) ht rfl rfl rfl rfl (zi_nat (k := 4) (by decide)) ⟨rfl, zi_in (k := 4) (n := 8) (by decide) (by decide)⟩ ?_
  refine zv_c1 ht rfl rfl ?_
  refine zv_gl (st' := [.ref 1597]) ht rfl (kG2.fin (kG1.fin hF)) rfl rfl rfl ?_
  refine zv_c1 ht rfl rfl (zv_c1 ht rfl rfl ?_)
  refine zv_is (j := 0) (x := ((gA S 1597 1) + (gA G1 1606 2)) + (gA G2 1606 3)) ht rfl rfl rfl rfl (zi_nat (k := 0) (by decide)) ⟨rfl, zi_in (k := 0) (n := 8) (by decide) (by decide)⟩ ?_
  exact zv_rt ht rfl rfl rfl rfl (h1 G1 kG1 eG1 G2 kG2 eG2)

section H3b
variable {d : Nat} {post : Outcome × zS → Prop}
theorem or4 (A B C D : Int32) : ((A ||| B) ||| C) ||| D = ((D ||| C) ||| B) ||| A := by
  rw [Int32.or_comm ((A ||| B) ||| C) D, Int32.or_comm (A ||| B) C, Int32.or_comm A B, ← Int32.or_assoc, ← Int32.or_assoc]
theorem rM4 (b0 b1 b2 b3 : Int32) : (((((((((0 : Int32) <<< (8 &&& 31)) ||| b0) <<< (8 &&& 31)) ||| b1) <<< (8 &&& 31)) ||| b2) <<< (8 &&& 31)) ||| b3) = (((b3 ||| (b2 <<< (8 &&& 31))) ||| (b1 <<< (16 &&& 31))) ||| (b0 <<< (24 &&& 31))) := by
  rw [hM4]
  exact or4 _ _ _ _
theorem m_ripemdBlock {S : zS} (hF : zFin true S) (hd : 2 ≤ d) (hc : mC S) (a : Nat) (ha : a ≤ 192)
    (h : ∀ S', zTK [] [1596, 1597, 1606] S S' → (∀ j, j < 5 → gA S' 1597 j = rBlk (fun j => gA S 1594 (a + j)) (gA S 1597) j) → post (.returned none, S')) : zCall d 113 [.ref 1592, .int (Int32.ofNat a)] S post := by
  refine rb0 hF a ?_
  refine zFill0 (L := fun k => [.ref 1592, .int (Int32.ofNat a), .int (Int32.ofNat k), .retAddr 0, .retAddr 0, .retAddr 0, .retAddr 0, .retAddr 0]) 1596 16 (rW (fun j => gA S 1594 (a + j))) ?_ ?_
  · intro k hk ih
    refine rb1 (S := sAr S 1596 0 k (rW (fun j => gA S 1594 (a + j)))) hF a k hk ha ?_
    have e : rb1_s2 (sAr S 1596 0 k (rW (fun j => gA S 1594 (a + j)))) a k = sA (sAr S 1596 0 k (rW (fun j => gA S 1594 (a + j)))) 1596 k (rW (fun j => gA S 1594 (a + j)) k) := by
      unfold rb1_s2 rb1_s1
      simp only [sA_sA]
      congr 1
      unfold rW
      rw [← rM4, Nat.add_assoc, Nat.add_assoc, Nat.add_assoc]
      rfl
    rw [e]
    exact ih
  refine rb2 (S := sAr S 1596 0 16 (rW (fun j => gA S 1594 (a + j)))) hF hd a ha (hc.k (zTK_sAr (fs := []) (as := [1596]) (by decide)) (by decide)) ?_
  intro G1 k1 e1 G2 k2 e2
  have hw : ∀ j, j < 16 → gA (sAr S 1596 0 16 (rW (fun j => gA S 1594 (a + j)))) 1596 j = rW (fun j => gA S 1594 (a + j)) j := fun j hj => gA_sAr0 hj
  have hw1 : gA G1 1596 = gA (sAr S 1596 0 16 (rW (fun j => gA S 1594 (a + j)))) 1596 := k1.2.2 _ (by decide)
  have hs1 : gA G1 1597 = gA S 1597 := (k1.2.2 _ (by decide)).trans rfl
  rw [show gA (sAr S 1596 0 16 (rW (fun j => gA S 1594 (a + j)))) 1597 = gA S 1597 from rfl, rIt_congr hw _ _ 80 (by omega)] at e1
  rw [hs1, hw1, rIt_congr hw _ _ 80 (by omega)] at e2
  refine h _ ?_ ?_
  · refine (zTK_sAr (by decide)).tr ((k1.w (by decide) (by decide)).tr ((k2.w (by decide) (by decide)).tr ?_))
    exact ((((zTK_sA (by decide)).tr (zTK_sA (by decide))).tr (zTK_sA (by decide))).tr (zTK_sA (by decide))).tr (zTK_sA (by decide))
  · intro j hj
    unfold rBlk
    rw [← e1, ← e2]
    have : j = 0 ∨ j = 1 ∨ j = 2 ∨ j = 3 ∨ j = 4 := by omega
    rcases this with rfl | rfl | rfl | rfl | rfl <;> rfl
end H3b
theorem ri0 {d : Nat} {S : zS} (hF : zFin true S) (hd : 2 ≤ d) {n : Nat}  (h_sayings : gI S 57 1592 = Int32.ofNat n) (hn : n ≤ 128) {post : Outcome × zS → Prop} (h1 : zEv d 112 51 [.ref 1592, .int (Int32.ofNat 0)] [] (sA (sA (sA (sA (sA (sI (sAr S 1594 n (hAll n - n) (fun i => hPd false n (n + i))) 57 1592 (Int32.ofNat (hAll n))) 1597 0 1732584193) 1597 1 (-271733879)) 1597 2 (-1732584194)) 1597 3 271733878) 1597 4 (-1009589776)) post) : zCall d 112 [.ref 1592] S post := by
  have ht : ztab 112 = ztb112 := rfl
  show zEv d 112 0 [.ref 1592, .retAddr 0] [] S post
  refine zv_c1 ht rfl rfl (zv_c1 ht rfl rfl ?_)
  refine zv_e1 (x := Int32.ofNat n) ht rfl rfl h_sayings ?_
  refine zv_c1 ht rfl rfl ?_
  refine zv_cl ht rfl rfl rfl rfl (by omega) (Nat.le_of_ble_eq_true rfl) (m_fills false (S := S) hF (by omega) (by omega) h_sayings ?_)
  show zEv d 112 9 [.ref 1592, .retAddr 0] [] (sI (sAr S 1594 n (hAll n - n) (fun i => hPd false n (n + i))) 57 1592 (Int32.ofNat (hAll n))) post
  refine zv_c1 ht rfl rfl ?_
  refine zv_gl (st' := [.ref 1597]) ht rfl hF rfl rfl rfl ?_
  refine zv_c1 ht rfl rfl (zv_c1 ht rfl rfl ?_)
  refine zv_is (j := 0) (x := 1732584193) ht rfl rfl rfl rfl (zi_nat (k := 0) (by decide)) ⟨rfl, zi_in (k := 0) (n := 8) (by decide) (by decide)⟩ ?_
  refine zv_c1 ht rfl rfl ?_
  refine zv_gl (st' := [.ref 1597]) ht rfl hF rfl rfl rfl ?_
  refine zv_c1 ht rfl rfl (zv_c1 ht rfl rfl ?_)
  refine zv_is (j := 1) (x := (-271733879)) ht rfl rfl rfl rfl (zi_nat (k := 1) (by decide)) ⟨rfl, zi_in (k := 1) (n := 8) (by decide) (by decide)⟩ ?_
  refine zv_c1 ht rfl rfl ?_
  refine zv_gl (st' := [.ref 1597]) ht rfl hF rfl rfl rfl ?_
  refine zv_c1 ht rfl rfl (zv_c1 ht rfl rfl ?_)
  refine zv_is (j := 2) (x := (-1732584194)) ht rfl rfl rfl rfl (zi_nat (k := 2) (by decide)) ⟨rfl, zi_in (k := 2) (n := 8) (by decide) (by decide)⟩ ?_
  refine zv_c1 ht rfl rfl ?_
  refine zv_gl (st' := [.ref 1597]) ht rfl hF rfl rfl rfl ?_
  refine zv_c1 ht rfl rfl (zv_c1 ht rfl rfl ?_)
  refine zv_is (j := 3) (x := 271733878) ht rfl rfl rfl rfl (zi_nat (k := 3) (by decide)) ⟨rfl, zi_in (k := 3) (n := 8) (by decide) (by decide)⟩ ?_
  refine zv_c1 ht rfl rfl ?_
  refine zv_gl (st' := [.ref 1597]) ht rfl hF rfl rfl rfl ?_
  refine zv_c1 ht rfl rfl (zv_c1 ht rfl rfl ?_)
  refine zv_is (j := 4) (x := (-1009589776)) ht rfl rfl rfl rfl (zi_nat (k := 4) (by decide)) ⟨rfl, zi_in (k := 4) (n := 8) (by decide) (by decide)⟩ ?_
  refine zv_c1 ht rfl rfl ?_
  refine zv_c2 (L' := [.ref 1592, .int 0]) ht rfl rfl ?_
  exact h1

theorem ri1 {d : Nat} {S : zS} (hF : zFin true S) (hd : 3 ≤ d) {n : Nat} (a : Nat)  (h_sayings : gI S 57 1592 = Int32.ofNat n) (hk : a ≤ 192) (hn : n ≤ 192) (hc : mC S) {post : Outcome × zS → Prop} (h1 : (n ≤ a) → zEv d 112 72 [.ref 1592, .int (Int32.ofNat 0)] [] S post) (h2 : (¬ (n ≤ a)) → ∀ G : zS, (zTK [] [1596, 1597, 1606] S G) → (∀ j, j < 5 → gA G 1597 j = rBlk (fun j => gA S 1594 (a + j)) (gA S 1597) j) → zEv d 112 51 [.ref 1592, .int (Int32.ofNat (a + 64))] [] G post) : zEv d 112 51 [.ref 1592, .int (Int32.ofNat a)] [] S post := by
  have ht : ztab 112 = ztb112 := rfl
  refine zv_c1 ht rfl rfl (zv_c1 ht rfl rfl ?_)
  refine zv_e1 (x := Int32.ofNat n) ht rfl rfl h_sayings ?_
  refine zv_br ht rfl rfl rfl (fun b1 => ?_) (fun b1 => ?_)
  · replace b1 : n ≤ a := (zi_leE (a := n) (b := a) rfl rfl (by omega) (by omega)).mp b1
    refine zv_c1 ht rfl rfl ?_
    refine zv_c2 (L' := [.ref 1592, .int 0]) ht rfl rfl ?_
    exact (h1 b1)
  · replace b1 : ¬ (n ≤ a) := fun h => b1 ((zi_leE (a := n) (b := a) rfl rfl (by omega) (by omega)).mpr h)
    refine zv_c1 ht rfl rfl (zv_c1 ht rfl rfl ?_)
    refine zv_cl ht rfl rfl rfl rfl (by omega) (Nat.le_of_ble_eq_true rfl) (m_ripemdBlock (S := S) hF (by omega) hc a (by omega) (fun G kG eG => ?_))
    show zEv d 112 64 [.ref 1592, .int (Int32.ofNat a)] [] G post
    refine zv_iinc (L' := [.ref 1592, .int (Int32.ofNat (a + 64))]) (i := 1) (x := Int32.ofNat (a + 64)) ht rfl rfl (zi_addE (a := a) (b := 64) rfl rfl) rfl ?_
    refine zv_c1 ht rfl rfl ?_
    exact (h2 b1 G kG eG)

theorem ri2 {d : Nat} {S : zS} (hF : zFin true S) (k : Nat)  (hk : k ≤ 20) {post : Outcome × zS → Prop} (h1 : (20 ≤ k) → post (.returned none, sI S 57 1592 0)) (h2 : (¬ (20 ≤ k)) → zEv d 112 72 [.ref 1592, .int (Int32.ofNat (k + 1))] [] (sA S 1595 k (((gA S 1597 (k / 4)) >>> ((Int32.ofNat (8 * (k % 4))) &&& 31) : Int32) &&& (255 : Int32))) post) : zEv d 112 72 [.ref 1592, .int (Int32.ofNat k)] [] S post := by
  have ht : ztab 112 = ztb112 := rfl
  refine zv_c1 ht rfl rfl (zv_c1 ht rfl rfl ?_)
  refine zv_br ht rfl rfl rfl (fun b1 => ?_) (fun b1 => ?_)
  · replace b1 : 20 ≤ k := (zi_leE (a := 20) (b := k) rfl rfl (by omega) (by omega)).mp b1
    refine zv_c1 ht rfl rfl (zv_c1 ht rfl rfl ?_)
    refine zv_c1 (S' := sI S 57 1592 0) ht rfl rfl ?_
    exact zv_rt ht rfl rfl rfl rfl (h1 b1)
  · replace b1 : ¬ (20 ≤ k) := fun h => b1 ((zi_leE (a := 20) (b := k) rfl rfl (by omega) (by omega)).mpr h)
    refine zv_c1 ht rfl rfl ?_
    refine zv_gl (st' := [.ref 1595]) ht rfl hF rfl rfl rfl ?_
    refine zv_c1 ht rfl rfl (zv_c1 ht rfl rfl ?_)
    refine zv_gl (st' := [.ref 1597, .int (Int32.ofNat k), .ref 1595]) ht rfl hF rfl rfl rfl ?_
    refine zv_c1 ht rfl rfl (zv_c1 ht rfl rfl ?_)
    refine zv_ei (x := Int32.ofNat (k / 4)) ht rfl rfl (zi_nz (a := 4) rfl (by omega) (by omega)) (zi_divE (a := k) (b := 4) rfl rfl (by omega) (by omega)) ?_
    refine zv_iaE (j := k / 4) (x := gA S 1597 (k / 4)) ht rfl rfl rfl rfl (zi_natE (a := k / 4) rfl (by omega)) ⟨(Or.inl rfl), zi_inE (a := k / 4) (n := 8) rfl (by omega) (by omega)⟩ rfl ?_
    refine zv_c1 ht rfl rfl (zv_c1 ht rfl rfl (zv_c1 ht rfl rfl ?_))
    refine zv_ei (x := Int32.ofNat (k % 4)) ht rfl rfl (zi_nz (a := 4) rfl (by omega) (by omega)) (zi_remE (a := k) (b := 4) rfl rfl (by omega) (by omega)) ?_
    refine zv_e1 (x := Int32.ofNat (8 * (k % 4))) ht rfl rfl (zi_mulE (a := 8) (b := k % 4) rfl rfl) ?_
    refine zv_c1 (st' := [.int ((gA S 1597 (k / 4)) >>> ((Int32.ofNat (8 * (k % 4))) &&& 31) : Int32), .int (Int32.ofNat k), .ref 1595]) (S' := S) ht rfl rfl ?_
    refine zv_c1 ht rfl rfl ?_
    refine zv_c1 (st' := [.int (((gA S 1597 (k / 4)) >>> ((Int32.ofNat (8 * (k % 4))) &&& 31) : Int32) &&& (255 : Int32)), .int (Int32.ofNat k), .ref 1595]) (S' := S) ht rfl rfl ?_
    refine zv_is (j := k) (x := ((gA S 1597 (k / 4)) >>> ((Int32.ofNat (8 * (k % 4))) &&& 31) : Int32) &&& (255 : Int32)) ht rfl rfl rfl rfl (zi_natE (a := k) rfl (by omega)) ⟨rfl, zi_inE (a := k) (n := 32) rfl (by omega) (by omega)⟩ ?_
    refine zv_iinc (L' := [.ref 1592, .int (Int32.ofNat (k + 1))]) (i := 1) (x := Int32.ofNat (k + 1)) ht rfl rfl (zi_addE (a := k) (b := 1) rfl rfl) rfl ?_
    refine zv_c1 ht rfl rfl ?_
    exact (h2 b1)

section H3c
variable {d : Nat} {post : Outcome × zS → Prop}
/-- the twin's RIPEMD-160 -/
theorem m_ripemd {n : Nat} {f : Nat → Int32} {S : zS} (hF : zFin true S) (hd : 3 ≤ d) (hc : mC S) (hn : n ≤ 128) (hs : gI S 57 1592 = Int32.ofNat n) (hf : ∀ j, j < n → gA S 1594 j = f j)
    (h : ∀ S', zTK [57] mSd S S' → gI S' 57 1592 = 0 → (∀ j, j < 20 → gA S' 1595 j = hRip n f j) → post (.returned none, S')) : zCall d 112 [.ref 1592] S post := by
  have hA : hAll n = (n + 72) / 64 * 64 := rfl
  have hq : hAll n = 64 * (hAll n / 64) := by omega
  refine ri0 hF (by omega) hs hn ?_
  have hp : ∀ j, j < hAll n → gA (sI (sAr S 1594 n (hAll n - n) (fun i => hPd false n (n + i))) 57 1592 (Int32.ofNat (hAll n))) 1594 j = hPad false n f j := by
    intro j hj
    show gA (sAr S 1594 n (hAll n - n) (fun i => hPd false n (n + i))) 1594 j = _
    unfold hPad
    by_cases e : j < n
    · rw [gA_sAr_out (by omega), if_pos e, hf j e]
    · rw [if_neg e]
      have := @gA_sAr_in S 1594 n (hAll n - n) (j - n) (fun i => hPd false n (n + i)) (by omega)
      rw [show n + (j - n) = j from by omega] at this
      exact this
  have k1 : zTK [57] mSd S (sI (sAr S 1594 n (hAll n - n) (fun i => hPd false n (n + i))) 57 1592 (Int32.ofNat (hAll n))) := (zTK_sAr (by decide)).tr (zTK_sI (by decide))
  have hs1 : gI (sI (sAr S 1594 n (hAll n - n) (fun i => hPd false n (n + i))) 57 1592 (Int32.ofNat (hAll n))) 57 1592 = Int32.ofNat (hAll n) := rfl
  generalize sI (sAr S 1594 n (hAll n - n) (fun i => hPd false n (n + i))) 57 1592 (Int32.ofNat (hAll n)) = S1 at hp k1 hs1 ⊢
  refine zLoop (L := fun i => [.ref 1592, .int (Int32.ofNat (64 * i))]) (hAll n / 64) (fun i S' => zTK [57] mSd S S' ∧ gI S' 57 1592 = Int32.ofNat (hAll n) ∧ (∀ j, j < hAll n → gA S' 1594 j = hPad false n f j) ∧ ∀ j, j < 5 → gA S' 1597 j = hIt rBlk (hPad false n f) hR0 i j) ?_ ?_ 0 _ (by omega) ⟨?_, hs1, fun j hj => hp j hj, ?_⟩
  · rintro i S' hi ⟨k2, s2, p2, w2⟩ ih
    refine ri1 (S := S') (n := hAll n) (k2.fin hF) hd (64 * i) s2 (by omega) (by omega) (hc.k k2 (by decide)) (fun b => by omega) ?_
    intro _ G kG eG
    refine ih _ ⟨k2.tr (kG.w (by decide) (by decide)), (kG.I (by decide) _).trans s2, fun j hj => (kG.A (by decide)).trans (p2 j hj), fun j hj => ?_⟩
    rw [eG j hj]
    exact rBlk_congr (fun j hj => p2 _ (by omega)) w2 j hj
  · rintro S' ⟨k2, s2, p2, w2⟩
    refine ri1 (S := S') (n := hAll n) (k2.fin hF) hd (64 * (hAll n / 64)) s2 (by omega) (by omega) (hc.k k2 (by decide)) (fun _ => ?_) (fun b => absurd (by omega) b)
    refine zFill0 (L := fun k => [.ref 1592, .int (Int32.ofNat k)]) 1595 20 (fun k => ((gA S' 1597 (k / 4)) >>> ((Int32.ofNat (8 * (k % 4))) &&& 31) : Int32) &&& (255 : Int32)) ?_ ?_
    · intro k hk ih
      exact ri2 (S := sAr S' 1595 0 k (fun k => ((gA S' 1597 (k / 4)) >>> ((Int32.ofNat (8 * (k % 4))) &&& 31) : Int32) &&& (255 : Int32))) (k2.fin hF) k (by omega) (fun b => by omega) (fun _ => ih)
    refine ri2 (S := sAr S' 1595 0 20 (fun k => ((gA S' 1597 (k / 4)) >>> ((Int32.ofNat (8 * (k % 4))) &&& 31) : Int32) &&& (255 : Int32))) (k2.fin hF) 20 (by omega) (fun _ => ?_) (fun b => absurd (by omega) b)
    refine h _ (k2.tr ((zTK_sAr (by decide)).tr (zTK_sI (by decide)))) rfl (fun j hj => ?_)
    show gA (sAr S' 1595 0 20 (fun k => ((gA S' 1597 (k / 4)) >>> ((Int32.ofNat (8 * (k % 4))) &&& 31) : Int32) &&& (255 : Int32))) 1595 j = _
    rw [gA_sAr0 hj, w2 (j / 4) (by omega)]
    rfl
  · exact k1.tr (((((zTK_sA (by decide)).tr (zTK_sA (by decide))).tr (zTK_sA (by decide))).tr (zTK_sA (by decide))).tr (zTK_sA (by decide)))
  · intro j hj
    have : j = 0 ∨ j = 1 ∨ j = 2 ∨ j = 3 ∨ j = 4 := by omega
    rcases this with rfl | rfl | rfl | rfl | rfl <;> rfl
end H3c

