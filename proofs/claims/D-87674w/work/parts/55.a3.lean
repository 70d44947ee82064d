set_option maxRecDepth 100000
theorem j386 {d : Nat} {S : zS} (hF : zFin true S) {s v : Nat} (h22 : ztyp S s = 22) (hv : gP S 199 s = some v) (hc : gI S 200 s = 0)  {post : Outcome × zS → Prop} (h1 : post (.returned (some (.int 1)), S)) : zCall d 386 [.ref s] S post := by
  have ht : ztab 386 = ztb386 := rfl
  show zEv d 386 0 [.ref s] [] S post
  refine zv_c1 ht rfl rfl ?_
  refine zv_br ht rfl rfl rfl (fun h => absurd h (by decide)) (fun _ => ?_)
  refine zv_c1 ht rfl rfl ?_
  refine zv_ei (x := 0) ht rfl rfl (zhas_of h22 rfl) hc ?_
  refine zv_br ht rfl rfl rfl (fun h => absurd h (by decide)) (fun _ => ?_)
  refine zv_c1 ht rfl rfl (zv_c1 ht rfl rfl ?_)
  exact zv_rc ht rfl rfl rfl rfl (by decide) h1

theorem j393 {d : Nat} {S : zS} (hF : zFin true S) {s v : Nat} (h22 : ztyp S s = 22) (hv : gP S 199 s = some v) (hc : gI S 200 s = 0)  {post : Outcome × zS → Prop} (h1 : post (.returned (some (.int 0)), S)) : zCall d 393 [.ref s] S post := by
  have ht : ztab 393 = ztb393 := rfl
  show zEv d 393 0 [.ref s] [] S post
  refine zv_c1 ht rfl rfl ?_
  refine zv_br ht rfl rfl rfl (fun h => absurd h (by decide)) (fun _ => ?_)
  refine zv_c1 ht rfl rfl ?_
  refine zv_ei (x := 0) ht rfl rfl (zhas_of h22 rfl) hc ?_
  refine zv_c1 ht rfl rfl ?_
  exact zv_rc ht rfl rfl rfl rfl (by decide) h1

theorem j407 {d : Nat} {S : zS} (hF : zFin true S) (i n w : Nat) (hi : i < n) (hn : n < 1000000) {post : Outcome × zS → Prop} (h1 : post (.returned (some (.int (Int32.ofNat i))), S)) : zCall d 407 [.int (Int32.ofNat i), .int (Int32.ofNat n), .retAddr w] S post := by
  have ht : ztab 407 = ztb407 := rfl
  show zEv d 407 0 [.int (Int32.ofNat i), .int (Int32.ofNat n), .retAddr w] [] S post
  refine zv_c1 ht rfl rfl ?_
  refine zv_br ht rfl rfl rfl (fun b1 => ?_) (fun b1 => ?_)
  · replace b1 : i < 0 := (zi_ltE (a := i) (b := 0) rfl rfl (by omega) (by omega)).mp b1
    exact (by omega : False).elim
  · replace b1 : ¬ (i < 0) := fun h => b1 ((zi_ltE (a := i) (b := 0) rfl rfl (by omega) (by omega)).mpr h)
    refine zv_c1 ht rfl rfl (zv_c1 ht rfl rfl ?_)
    refine zv_br ht rfl rfl rfl (fun b1 => ?_) (fun b1 => ?_)
    · replace b1 : i < n := (zi_ltE (a := i) (b := n) rfl rfl (by omega) (by omega)).mp b1
      refine zv_c1 ht rfl rfl ?_
      exact zv_rt ht rfl rfl rfl rfl h1
    · replace b1 : ¬ (i < n) := fun h => b1 ((zi_ltE (a := i) (b := n) rfl rfl (by omega) (by omega)).mpr h)
      exact (by omega : False).elim

theorem j387 {d : Nat} {S : zS} (hF : zFin true S) (hd : 1 ≤ d) (i n : Nat) (hi : i < n) (hn : n < 1000000) {post : Outcome × zS → Prop} (h1 : post (.returned none, S)) : zCall d 387 [.int (Int32.ofNat i), .int (Int32.ofNat n)] S post := by
  have ht : ztab 387 = ztb387 := rfl
  show zEv d 387 0 [.int (Int32.ofNat i), .int (Int32.ofNat n)] [] S post
  refine zv_c1 ht rfl rfl (zv_c1 ht rfl rfl (zv_c1 ht rfl rfl ?_))
  refine zv_cl ht rfl rfl rfl rfl (by omega) (Nat.le_of_ble_eq_true rfl) (j407 (S := S) hF i n _ (by omega) (by omega)  ?_)
  show zEv d 387 8 [.int (Int32.ofNat i), .int (Int32.ofNat n)] [.int (Int32.ofNat i)] S post
  refine zv_c1 ht rfl rfl ?_
  exact zv_rt ht rfl rfl rfl rfl h1

theorem j399 {d : Nat} {S : zS} (hF : zFin true S) (hd : 2 ≤ d) {v : Nat} (h1 : ztyp S v = 101 ∨ ztyp S v = 121) (i : Nat) (hi : i < zlen S v) (hn : zlen S v < 1000000) {post : Outcome × zS → Prop} (s1 : (((Int32.toUInt32 ((gA S v i) &&& (255 : Int32)) % 65536).toInt32).toUInt32 % 65536).toInt32 = (Int32.toUInt32 ((gA S v i) &&& (255 : Int32)) % 65536).toInt32) (h2 : post (.returned (some (.int ((Int32.toUInt32 ((gA S v i) &&& (255 : Int32)) % 65536).toInt32))), S)) : zCall d 399 [.ref v, .int (Int32.ofNat i)] S post := by
  have ht : ztab 399 = ztb399 := rfl
  show zEv d 399 0 [.ref v, .int (Int32.ofNat i)] [] S post
  refine zv_c1 ht rfl rfl (zv_c1 ht rfl rfl ?_)
  refine zv_ci (st' := [.int (Int32.ofNat (zlen S v)), .int (Int32.ofNat i)]) ht rfl rfl (zv_l2 h1) ?_
  refine zv_cl ht rfl rfl rfl rfl (by omega) (Nat.le_of_ble_eq_true rfl) (j387 (S := S) hF (by omega) i (zlen S v) (by omega) (by omega)  ?_)
  show zEv d 399 6 [.ref v, .int (Int32.ofNat i)] [] S post
  refine zv_c1 ht rfl rfl (zv_c1 ht rfl rfl ?_)
  refine zv_ba (j := i) ht rfl rfl rfl rfl (zi_natE (a := i) rfl (by omega)) ⟨(zv_b2 h1), zi_inE (a := i) rfl (by omega) (by omega)⟩ ?_
  refine zv_c1 ht rfl rfl (zv_c1 ht rfl rfl (zv_c1 ht rfl rfl ?_))
  exact zv_rc ht rfl rfl rfl rfl s1 h2

