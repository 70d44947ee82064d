set_option maxRecDepth 100000
/-! ===== the twin reads what stands in brackets: fragments ===== -/
/-- reading one fragment, so deep, answers as the plain reader does -/
def mRd (tp : Nat → Nat) (sz B d deep : Nat) (rec : Nat → Nat → Nat → pE (zNd × Nat × Nat)) : Prop := ∀ {S : zS} {at0 rd nx wt : Nat} {post : Outcome × zS → Prop}, zFin true S → mP tp sz S at0 rd nx wt → rd ≤ 80 → nx + 2 * (sz - at0) ≤ B → wt + (sz - at0) ≤ 2000 →
  (∀ S' x i at1 rd1 nx1, zFin true S' → rec deep at0 rd = .ok (x, at1, rd1) → mFr B nx wt S S' → mT true S' nx nx1 x i → mP tp sz S' at1 rd1 nx1 wt → at0 < at1 ∧ at1 ≤ sz ∧ nx1 ≤ nx + 2 * (at1 - at0) ∧ rd1 ≤ 80 ∧ nx < nx1 ∧ i < 3000 → post (.returned (some (.int (Int32.ofNat i))), S')) →
  (∀ S' q k p, zFin true S' → rec deep at0 rd = .error (k, p) → mFr B nx wt S S' → mX S' k p → 0 < k ∧ k < 4 → post (.returned (some (.int q)), S')) → zCall d 124 [.ref 1592, .int (Int32.ofNat deep)] S post
theorem fr0 {d : Nat} {S : zS} (hF : zFin true S) (hd : 1 ≤ d) (k : Nat) (y : Int32)  (h_fault : gI S 91 1592 = Int32.ofNat k) (hk : 0 < k) (hk4 : k < 4) {post : Outcome × zS → Prop} (h1 : post (.returned (some (.int (-1))), S)) : zCall d 124 [.ref 1592, .int y] S post := by
  have ht : ztab 124 = ztb124 := rfl
  show zEv d 124 0 [.ref 1592, .int y, .retAddr 0, .retAddr 0, .retAddr 0, .retAddr 0, .retAddr 0] [] S post
  refine zv_c1 ht rfl rfl ?_
  have C2 : ∀ (pst1 : Outcome × zS → Prop), (pst1 (.returned (some (.int 0)), S)) → zCall (d - 1) 125 [.ref 1592] S pst1 := by
    intro pst1 k5
    have ht3 : ztab 125 = ztb125 := rfl
    show zEv (d - 1) 125 0 [.ref 1592] [] S pst1
    refine zv_c1 ht3 rfl rfl ?_
    refine zv_e1 (x := Int32.ofNat k) ht3 rfl rfl h_fault ?_
    refine zv_br ht3 rfl rfl rfl (fun b4 => ?_) (fun b4 => (show False from by have hq := b4; have hz : k = 0 := (zi_eqE (a := k) (b := 0) rfl rfl (by omega) (by omega)).mp (Classical.not_not.mp hq); omega).elim)
    refine zv_c1 ht3 rfl rfl ?_
    exact zv_rc ht3 rfl rfl rfl rfl (by decide) k5
  refine zv_cl ht rfl rfl rfl rfl (by omega) (Nat.le_of_ble_eq_true rfl) (C2 _ ?_)
  show zEv d 124 4 [.ref 1592, .int y, .retAddr 0, .retAddr 0, .retAddr 0, .retAddr 0, .retAddr 0] [.int 0] S post
  refine zv_br ht rfl rfl rfl (fun h => absurd h (by decide)) (fun _ => ?_)
  refine zv_c1 ht rfl rfl ?_
  exact zv_rt ht rfl rfl rfl rfl h1

section Q10
variable {d : Nat} {post : Outcome × zS → Prop} {tp : Nat → Nat} {sz : Nat}
theorem m_fragX {S : zS} (hF : zFin true S) (hd : 2 ≤ d) {k p : Nat} {y : Int32} (hX : mX S k p) (h : post (.returned (some (.int (-1))), S)) : zCall d 124 [.ref 1592, .int y] S post := fr0 hF (by omega) k y hX.1 hX.2.2.1 hX.2.2.2 h
end Q10
theorem ib_10 {d : Nat} {S : zS} (hF : zFin true S) (hd : 3 ≤ d) {tp : Nat → Nat} {sz at0 rd nx wt B : Nat} {rec : Nat → Nat → Nat → pE (zNd × Nat × Nat)} (p deep : Nat)  (hP : mP tp sz S at0 rd nx wt) (hp : p ≤ 300) (hdp : deep < 2000) (hrd : rd ≤ 80) (hs0 : sz ≤ 300) (ha0 : at0 ≤ sz) (hB : nx + 2 * (sz - at0) + 3 ≤ B) (hB3 : B ≤ 3000) (hwt : wt + (sz - at0) ≤ 2000) (hR : mRd tp sz B (d - 1) (deep + 1) rec) {post : Outcome × zS → Prop} (h1 : ∀ S9 : zS, ∀ y9 : zNd, ∀ i9 : Nat, ∀ at9 : Nat, ∀ rd9 : Nat, ∀ nx9 : Nat, (zFin true S9) → (rec (deep + 1) at0 rd = .ok (y9, at9, rd9)) → (mFr B nx wt S S9) → (mT true S9 nx nx9 y9 i9) → (mP tp sz S9 at9 rd9 nx9 wt) → (at0 < at9 ∧ at9 ≤ sz ∧ nx9 ≤ nx + 2 * (at9 - at0) ∧ rd9 ≤ 80 ∧ nx < nx9 ∧ i9 < 3000) → ∀ S11 : zS, (zFin true S11) → (pWant tp sz 44 at9 = .ok (at9 + 1)) → (mFr B nx9 wt S9 S11) → (mP tp sz S11 (at9 + 1) rd9 nx9 wt) → ∀ S13 : zS, ∀ y13 : zNd, ∀ i13 : Nat, ∀ at13 : Nat, ∀ rd13 : Nat, ∀ nx13 : Nat, (zFin true S13) → (rec (deep + 1) (at9 + 1) rd9 = .ok (y13, at13, rd13)) → (mFr B nx9 wt S11 S13) → (mT true S13 nx9 nx13 y13 i13) → (mP tp sz S13 at13 rd13 nx13 wt) → ((at9 + 1) < at13 ∧ at13 ≤ sz ∧ nx13 ≤ nx9 + 2 * (at13 - (at9 + 1)) ∧ rd13 ≤ 80 ∧ nx9 < nx13 ∧ i13 < 3000) → ∀ S15 : zS, (zFin true S15) → (pWant tp sz 44 at13 = .ok (at13 + 1)) → (mFr B nx13 wt S13 S15) → (mP tp sz S15 (at13 + 1) rd13 nx13 wt) → ∀ S17 : zS, ∀ y17 : zNd, ∀ i17 : Nat, ∀ at17 : Nat, ∀ rd17 : Nat, ∀ nx17 : Nat, (zFin true S17) → (rec (deep + 1) (at13 + 1) rd13 = .ok (y17, at17, rd17)) → (mFr B nx13 wt S15 S17) → (mT true S17 nx13 nx17 y17 i17) → (mP tp sz S17 at17 rd17 nx17 wt) → ((at13 + 1) < at17 ∧ at17 ≤ sz ∧ nx17 ≤ nx13 + 2 * (at17 - (at13 + 1)) ∧ rd17 ≤ 80 ∧ nx13 < nx17 ∧ i17 < 3000) → ∀ S19 : zS, (zFin true S19) → (pWant tp sz 41 at17 = .ok (at17 + 1)) → (mFr B nx17 wt S17 S19) → (mP tp sz S19 (at17 + 1) rd17 nx17 wt) → zCall (d - 1) 133 [.ref 1592, .int 10, .int 0, .int (Int32.ofNat p)] S19 (zAf d 151 291 [.ref 1592, .int 10, .int (Int32.ofNat p), .int (Int32.ofNat deep), .int 3, .int (Int32.ofNat i9), .int (Int32.ofNat i13), .int (Int32.ofNat i17), .retAddr 0] [] post)) (h2 : ∀ S9 : zS, ∀ y9 : zNd, ∀ i9 : Nat, ∀ at9 : Nat, ∀ rd9 : Nat, ∀ nx9 : Nat, (zFin true S9) → (rec (deep + 1) at0 rd = .ok (y9, at9, rd9)) → (mFr B nx wt S S9) → (mT true S9 nx nx9 y9 i9) → (mP tp sz S9 at9 rd9 nx9 wt) → (at0 < at9 ∧ at9 ≤ sz ∧ nx9 ≤ nx + 2 * (at9 - at0) ∧ rd9 ≤ 80 ∧ nx < nx9 ∧ i9 < 3000) → ∀ S11 : zS, (zFin true S11) → (pWant tp sz 44 at9 = .ok (at9 + 1)) → (mFr B nx9 wt S9 S11) → (mP tp sz S11 (at9 + 1) rd9 nx9 wt) → ∀ S13 : zS, ∀ y13 : zNd, ∀ i13 : Nat, ∀ at13 : Nat, ∀ rd13 : Nat, ∀ nx13 : Nat, (zFin true S13) → (rec (deep + 1) (at9 + 1) rd9 = .ok (y13, at13, rd13)) → (mFr B nx9 wt S11 S13) → (mT true S13 nx9 nx13 y13 i13) → (mP tp sz S13 at13 rd13 nx13 wt) → ((at9 + 1) < at13 ∧ at13 ≤ sz ∧ nx13 ≤ nx9 + 2 * (at13 - (at9 + 1)) ∧ rd13 ≤ 80 ∧ nx9 < nx13 ∧ i13 < 3000) → ∀ S15 : zS, (zFin true S15) → (pWant tp sz 44 at13 = .ok (at13 + 1)) → (mFr B nx13 wt S13 S15) → (mP tp sz S15 (at13 + 1) rd13 nx13 wt) → ∀ S17 : zS, ∀ y17 : zNd, ∀ i17 : Nat, ∀ at17 : Nat, ∀ rd17 : Nat, ∀ nx17 : Nat, (zFin true S17) → (rec (deep + 1) (at13 + 1) rd13 = .ok (y17, at17, rd17)) → (mFr B nx13 wt S15 S17) → (mT true S17 nx13 nx17 y17 i17) → (mP tp sz S17 at17 rd17 nx17 wt) → ((at13 + 1) < at17 ∧ at17 ≤ sz ∧ nx17 ≤ nx13 + 2 * (at17 - (at13 + 1)) ∧ rd17 ≤ 80 ∧ nx13 < nx17 ∧ i17 < 3000) → ∀ S20 : zS, (zFin true S20) → (pWant tp sz 41 at17 = .error (1, at17)) → (mFr B nx17 wt S17 S20) → (mX S20 1 at17) → post (.returned (some (.int (-1))), S20)) (h3 : ∀ S9 : zS, ∀ y9 : zNd, ∀ i9 : Nat, ∀ at9 : Nat, ∀ rd9 : Nat, ∀ nx9 : Nat, (zFin true S9) → (rec (deep + 1) at0 rd = .ok (y9, at9, rd9)) → (mFr B nx wt S S9) → (mT true S9 nx nx9 y9 i9) → (mP tp sz S9 at9 rd9 nx9 wt) → (at0 < at9 ∧ at9 ≤ sz ∧ nx9 ≤ nx + 2 * (at9 - at0) ∧ rd9 ≤ 80 ∧ nx < nx9 ∧ i9 < 3000) → ∀ S11 : zS, (zFin true S11) → (pWant tp sz 44 at9 = .ok (at9 + 1)) → (mFr B nx9 wt S9 S11) → (mP tp sz S11 (at9 + 1) rd9 nx9 wt) → ∀ S13 : zS, ∀ y13 : zNd, ∀ i13 : Nat, ∀ at13 : Nat, ∀ rd13 : Nat, ∀ nx13 : Nat, (zFin true S13) → (rec (deep + 1) (at9 + 1) rd9 = .ok (y13, at13, rd13)) → (mFr B nx9 wt S11 S13) → (mT true S13 nx9 nx13 y13 i13) → (mP tp sz S13 at13 rd13 nx13 wt) → ((at9 + 1) < at13 ∧ at13 ≤ sz ∧ nx13 ≤ nx9 + 2 * (at13 - (at9 + 1)) ∧ rd13 ≤ 80 ∧ nx9 < nx13 ∧ i13 < 3000) → ∀ S15 : zS, (zFin true S15) → (pWant tp sz 44 at13 = .ok (at13 + 1)) → (mFr B nx13 wt S13 S15) → (mP tp sz S15 (at13 + 1) rd13 nx13 wt) → ∀ S18 : zS, ∀ u18 : Int32, ∀ kk18 : Nat, ∀ z18 : Nat, (zFin true S18) → (rec (deep + 1) (at13 + 1) rd13 = .error (kk18, z18)) → (mFr B nx13 wt S15 S18) → (mX S18 kk18 z18) → (0 < kk18 ∧ kk18 < 4) → post (.returned (some (.int (-1))), S18)) (h4 : ∀ S9 : zS, ∀ y9 : zNd, ∀ i9 : Nat, ∀ at9 : Nat, ∀ rd9 : Nat, ∀ nx9 : Nat, (zFin true S9) → (rec (deep + 1) at0 rd = .ok (y9, at9, rd9)) → (mFr B nx wt S S9) → (mT true S9 nx nx9 y9 i9) → (mP tp sz S9 at9 rd9 nx9 wt) → (at0 < at9 ∧ at9 ≤ sz ∧ nx9 ≤ nx + 2 * (at9 - at0) ∧ rd9 ≤ 80 ∧ nx < nx9 ∧ i9 < 3000) → ∀ S11 : zS, (zFin true S11) → (pWant tp sz 44 at9 = .ok (at9 + 1)) → (mFr B nx9 wt S9 S11) → (mP tp sz S11 (at9 + 1) rd9 nx9 wt) → ∀ S13 : zS, ∀ y13 : zNd, ∀ i13 : Nat, ∀ at13 : Nat, ∀ rd13 : Nat, ∀ nx13 : Nat, (zFin true S13) → (rec (deep + 1) (at9 + 1) rd9 = .ok (y13, at13, rd13)) → (mFr B nx9 wt S11 S13) → (mT true S13 nx9 nx13 y13 i13) → (mP tp sz S13 at13 rd13 nx13 wt) → ((at9 + 1) < at13 ∧ at13 ≤ sz ∧ nx13 ≤ nx9 + 2 * (at13 - (at9 + 1)) ∧ rd13 ≤ 80 ∧ nx9 < nx13 ∧ i13 < 3000) → ∀ S16 : zS, (zFin true S16) → (pWant tp sz 44 at13 = .error (1, at13)) → (mFr B nx13 wt S13 S16) → (mX S16 1 at13) → post (.returned (some (.int (-1))), S16)) (h5 : ∀ S9 : zS, ∀ y9 : zNd, ∀ i9 : Nat, ∀ at9 : Nat, ∀ rd9 : Nat, ∀ nx9 : Nat, (zFin true S9) → (rec (deep + 1) at0 rd = .ok (y9, at9, rd9)) → (mFr B nx wt S S9) → (mT true S9 nx nx9 y9 i9) → (mP tp sz S9 at9 rd9 nx9 wt) → (at0 < at9 ∧ at9 ≤ sz ∧ nx9 ≤ nx + 2 * (at9 - at0) ∧ rd9 ≤ 80 ∧ nx < nx9 ∧ i9 < 3000) → ∀ S11 : zS, (zFin true S11) → (pWant tp sz 44 at9 = .ok (at9 + 1)) → (mFr B nx9 wt S9 S11) → (mP tp sz S11 (at9 + 1) rd9 nx9 wt) → ∀ S14 : zS, ∀ u14 : Int32, ∀ kk14 : Nat, ∀ z14 : Nat, (zFin true S14) → (rec (deep + 1) (at9 + 1) rd9 = .error (kk14, z14)) → (mFr B nx9 wt S11 S14) → (mX S14 kk14 z14) → (0 < kk14 ∧ kk14 < 4) → post (.returned (some (.int (-1))), S14)) (h6 : ∀ S9 : zS, ∀ y9 : zNd, ∀ i9 : Nat, ∀ at9 : Nat, ∀ rd9 : Nat, ∀ nx9 : Nat, (zFin true S9) → (rec (deep + 1) at0 rd = .ok (y9, at9, rd9)) → (mFr B nx wt S S9) → (mT true S9 nx nx9 y9 i9) → (mP tp sz S9 at9 rd9 nx9 wt) → (at0 < at9 ∧ at9 ≤ sz ∧ nx9 ≤ nx + 2 * (at9 - at0) ∧ rd9 ≤ 80 ∧ nx < nx9 ∧ i9 < 3000) → ∀ S12 : zS, (zFin true S12) → (pWant tp sz 44 at9 = .error (1, at9)) → (mFr B nx9 wt S9 S12) → (mX S12 1 at9) → post (.returned (some (.int (-1))), S12)) (h7 : ∀ S10 : zS, ∀ u10 : Int32, ∀ kk10 : Nat, ∀ z10 : Nat, (zFin true S10) → (rec (deep + 1) at0 rd = .error (kk10, z10)) → (mFr B nx wt S S10) → (mX S10 kk10 z10) → (0 < kk10 ∧ kk10 < 4) → post (.returned (some (.int (-1))), S10)) : zCall d 151 [.ref 1592, .int 10, .int (Int32.ofNat p), .int (Int32.ofNat deep)] S post := by
  have ht : ztab 151 = ztb151 := rfl
  show zEv d 151 0 [.ref 1592, .int 10, .int (Int32.ofNat p), .int (Int32.ofNat deep), .retAddr 0, .retAddr 0, .retAddr 0, .retAddr 0, .retAddr 0] [] S post
  refine zv_c1 ht rfl rfl ?_
  have C2 : ∀ (pst1 : Outcome × zS → Prop), (pst1 (.returned (some (.int 1)), S)) → zCall (d - 1) 125 [.ref 1592] S pst1 := by
    intro pst1 k4
    have ht3 : ztab 125 = ztb125 := rfl
    show zEv (d - 1) 125 0 [.ref 1592] [] S pst1
    refine zv_c1 ht3 rfl rfl ?_
    refine zv_e1 (x := 0) ht3 rfl rfl hP.1.2.2.1 ?_
    refine zv_br ht3 rfl rfl rfl (fun h => absurd h (by decide)) (fun _ => ?_)
    refine zv_c1 ht3 rfl rfl (zv_c1 ht3 rfl rfl ?_)
    exact zv_rc ht3 rfl rfl rfl rfl (by decide) k4
  refine zv_cl ht rfl rfl rfl rfl (by omega) (Nat.le_of_ble_eq_true rfl) (C2 _ ?_)
  show zEv d 151 4 [.ref 1592, .int 10, .int (Int32.ofNat p), .int (Int32.ofNat deep), .retAddr 0, .retAddr 0, .retAddr 0, .retAddr 0, .retAddr 0] [.int 1] S post
  refine zv_br ht rfl rfl rfl (fun _ => ?_) (fun h => absurd (by decide) h)
  refine zv_c1 ht rfl rfl (zv_c1 ht rfl rfl ?_)
  refine zv_br ht rfl rfl rfl (fun h => absurd h (by decide)) (fun _ => ?_)
  refine zv_c1 ht rfl rfl (zv_c1 ht rfl rfl ?_)
  refine zv_br ht rfl rfl rfl (fun h => absurd h (by decide)) (fun _ => ?_)
  refine zv_c1 ht rfl rfl (zv_c1 ht rfl rfl ?_)
  refine zv_br ht rfl rfl rfl (fun h => absurd h (by decide)) (fun _ => ?_)
  refine zv_c1 ht rfl rfl (zv_c1 ht rfl rfl ?_)
  refine zv_br ht rfl rfl rfl (fun _ => ?_) (fun h => absurd (by decide) h)
  refine zv_c1 ht rfl rfl (zv_c1 ht rfl rfl ?_)
  refine zv_br ht rfl rfl rfl (fun h => absurd h (by decide)) (fun _ => ?_)
  refine zv_c1 ht rfl rfl (zv_c1 ht rfl rfl ?_)
  refine zv_br ht rfl rfl rfl (fun h => absurd h (by decide)) (fun _ => ?_)
  refine zv_c1 ht rfl rfl (zv_c1 ht rfl rfl (zv_c1 ht rfl rfl ?_))
  have C6 : ∀ (pst5 : Outcome × zS → Prop), (pst5 (.returned (some (.int 0)), S)) → zCall (d - 1) 102 [.int 10, .int 6, .int 9] S pst5 := by
    intro pst5 k8
    have ht7 : ztab 102 = ztb102 := rfl
    show zEv (d - 1) 102 0 [.int 10, .int 6, .int 9] [] S pst5
    refine zv_c1 ht7 rfl rfl (zv_c1 ht7 rfl rfl ?_)
    refine zv_br ht7 rfl rfl rfl (fun h => absurd h (by decide)) (fun _ => ?_)
    refine zv_c1 ht7 rfl rfl (zv_c1 ht7 rfl rfl ?_)
    refine zv_br ht7 rfl rfl rfl (fun _ => ?_) (fun h => absurd (by decide) h)
    refine zv_c1 ht7 rfl rfl ?_
    exact zv_rc ht7 rfl rfl rfl rfl (by decide) k8
  refine zv_cl ht rfl rfl rfl rfl (by omega) (Nat.le_of_ble_eq_true rfl) (C6 _ ?_)
  show zEv d 151 124 [.ref 1592, .int 10, .int (Int32.ofNat p), .int (Int32.ofNat deep), .retAddr 0, .retAddr 0, .retAddr 0, .retAddr 0, .retAddr 0] [.int 0] S post
  refine zv_br ht rfl rfl rfl (fun _ => ?_) (fun h => absurd (by decide) h)
  refine zv_c1 ht rfl rfl (zv_c1 ht rfl rfl ?_)
  refine zv_br ht rfl rfl rfl (fun h => absurd h (by decide)) (fun _ => ?_)
  refine zv_c1 ht rfl rfl (zv_c1 ht rfl rfl ?_)
  refine zv_br ht rfl rfl rfl (fun _ => ?_) (fun h => absurd (by decide) h)
  refine zv_c1 ht rfl rfl (zv_c1 ht rfl rfl ?_)
  refine zv_br ht rfl rfl rfl (fun h => absurd h (by decide)) (fun _ => ?_)
  refine zv_c1 ht rfl rfl (zv_c1 ht rfl rfl ?_)
  refine zv_c2 (L' := [.ref 1592, .int 10, .int (Int32.ofNat p), .int (Int32.ofNat deep), .int 3, .retAddr 0, .retAddr 0, .retAddr 0, .retAddr 0]) ht rfl rfl ?_
  refine zv_c1 ht rfl rfl (zv_c1 ht rfl rfl (zv_c1 ht rfl rfl ?_))
  refine zv_e1 (x := Int32.ofNat (deep + 1)) ht rfl rfl (zi_addE (a := deep) (b := 1) rfl rfl) ?_
  refine zv_cl ht rfl rfl rfl rfl (by omega) (Nat.le_of_ble_eq_true rfl) (hR (S := S) (nx := nx) (wt := wt) hF hP (by omega) (by omega) (by omega) (fun S9 y9 i9 at9 rd9 nx9 hF9 e9 k9 t9 p9 g9 => ?_) (fun S10 u10 kk10 z10 hF10 e10 k10 x10 w10 => ?_))
  · show zEv d 151 220 [.ref 1592, .int 10, .int (Int32.ofNat p), .int (Int32.ofNat deep), .int 3, .retAddr 0, .retAddr 0, .retAddr 0, .retAddr 0] [.int (Int32.ofNat i9)] S9 post
    refine zv_c2 (L' := [.ref 1592, .int 10, .int (Int32.ofNat p), .int (Int32.ofNat deep), .int 3, .int (Int32.ofNat i9), .retAddr 0, .retAddr 0, .retAddr 0]) ht rfl rfl ?_
    refine zv_c1 ht rfl rfl (zv_c1 ht rfl rfl ?_)
    refine zv_cl ht rfl rfl rfl rfl (by omega) (Nat.le_of_ble_eq_true rfl) (m_want (S := S9) (tp := tp) (sz := sz) (B := B) (w := 44) hF9 (by omega) p9 (by omega) (by omega) (fun S11 hF11 e11 k11 p11 => ?_) (fun S12 hF12 e12 k12 x12 => ?_))
    · show zEv d 151 228 [.ref 1592, .int 10, .int (Int32.ofNat p), .int (Int32.ofNat deep), .int 3, .int (Int32.ofNat i9), .retAddr 0, .retAddr 0, .retAddr 0] [] S11 post
      refine zv_c1 ht rfl rfl (zv_c1 ht rfl rfl (zv_c1 ht rfl rfl ?_))
      refine zv_e1 (x := Int32.ofNat (deep + 1)) ht rfl rfl (zi_addE (a := deep) (b := 1) rfl rfl) ?_
      refine zv_cl ht rfl rfl rfl rfl (by omega) (Nat.le_of_ble_eq_true rfl) (hR (S := S11) (nx := nx9) (wt := wt) hF11 p11 (by omega) (by omega) (by omega) (fun S13 y13 i13 at13 rd13 nx13 hF13 e13 k13 t13 p13 g13 => ?_) (fun S14 u14 kk14 z14 hF14 e14 k14 x14 w14 => ?_))
      · show zEv d 151 235 [.ref 1592, .int 10, .int (Int32.ofNat p), .int (Int32.ofNat deep), .int 3, .int (Int32.ofNat i9), .retAddr 0, .retAddr 0, .retAddr 0] [.int (Int32.ofNat i13)] S13 post
        refine zv_c2 (L' := [.ref 1592, .int 10, .int (Int32.ofNat p), .int (Int32.ofNat deep), .int 3, .int (Int32.ofNat i9), .int (Int32.ofNat i13), .retAddr 0, .retAddr 0]) ht rfl rfl ?_
        refine zv_c1 ht rfl rfl ?_
        refine zv_c2 (L' := [.ref 1592, .int 10, .int (Int32.ofNat p), .int (Int32.ofNat deep), .int 3, .int (Int32.ofNat i9), .int (Int32.ofNat i13), .int (-1), .retAddr 0]) ht rfl rfl ?_
        refine zv_c1 ht rfl rfl (zv_c1 ht rfl rfl ?_)
        refine zv_br ht rfl rfl rfl (fun h => absurd h (by decide)) (fun _ => ?_)
        refine zv_c1 ht rfl rfl (zv_c1 ht rfl rfl ?_)
        refine zv_cl ht rfl rfl rfl rfl (by omega) (Nat.le_of_ble_eq_true rfl) (m_want (S := S13) (tp := tp) (sz := sz) (B := B) (w := 44) hF13 (by omega) p13 (by omega) (by omega) (fun S15 hF15 e15 k15 p15 => ?_) (fun S16 hF16 e16 k16 x16 => ?_))
        · show zEv d 151 252 [.ref 1592, .int 10, .int (Int32.ofNat p), .int (Int32.ofNat deep), .int 3, .int (Int32.ofNat i9), .int (Int32.ofNat i13), .int (-1), .retAddr 0] [] S15 post
          refine zv_c1 ht rfl rfl (zv_c1 ht rfl rfl (zv_c1 ht rfl rfl ?_))
          refine zv_e1 (x := Int32.ofNat (deep + 1)) ht rfl rfl (zi_addE (a := deep) (b := 1) rfl rfl) ?_
          refine zv_cl ht rfl rfl rfl rfl (by omega) (Nat.le_of_ble_eq_true rfl) (hR (S := S15) (nx := nx13) (wt := wt) hF15 p15 (by omega) (by omega) (by omega) (fun S17 y17 i17 at17 rd17 nx17 hF17 e17 k17 t17 p17 g17 => ?_) (fun S18 u18 kk18 z18 hF18 e18 k18 x18 w18 => ?_))
          · show zEv d 151 259 [.ref 1592, .int 10, .int (Int32.ofNat p), .int (Int32.ofNat deep), .int 3, .int (Int32.ofNat i9), .int (Int32.ofNat i13), .int (-1), .retAddr 0] [.int (Int32.ofNat i17)] S17 post
            refine zv_c2 (L' := [.ref 1592, .int 10, .int (Int32.ofNat p), .int (Int32.ofNat deep), .int 3, .int (Int32.ofNat i9), .int (Int32.ofNat i13), .int (Int32.ofNat i17), .retAddr 0]) ht rfl rfl ?_
            refine zv_c1 ht rfl rfl (zv_c1 ht rfl rfl ?_)
            refine zv_cl ht rfl rfl rfl rfl (by omega) (Nat.le_of_ble_eq_true rfl) (m_want (S := S17) (tp := tp) (sz := sz) (B := B) (w := 41) hF17 (by omega) p17 (by omega) (by omega) (fun S19 hF19 e19 k19 p19 => ?_) (fun S20 hF20 e20 k20 x20 => ?_))
            · show zEv d 151 267 [.ref 1592, .int 10, .int (Int32.ofNat p), .int (Int32.ofNat deep), .int 3, .int (Int32.ofNat i9), .int (Int32.ofNat i13), .int (Int32.ofNat i17), .retAddr 0] [] S19 post
              refine zv_c1 ht rfl rfl ?_
              have C22 : ∀ (pst21 : Outcome × zS → Prop), (pst21 (.returned (some (.int 1)), S19)) → zCall (d - 1) 125 [.ref 1592] S19 pst21 := by
                intro pst21 k24
                have ht23 : ztab 125 = ztb125 := rfl
                show zEv (d - 1) 125 0 [.ref 1592] [] S19 pst21
                refine zv_c1 ht23 rfl rfl ?_
                refine zv_e1 (x := 0) ht23 rfl rfl p19.1.2.2.1 ?_
                refine zv_br ht23 rfl rfl rfl (fun h => absurd h (by decide)) (fun _ => ?_)
                refine zv_c1 ht23 rfl rfl (zv_c1 ht23 rfl rfl ?_)
                exact zv_rc ht23 rfl rfl rfl rfl (by decide) k24
              refine zv_cl ht rfl rfl rfl rfl (by omega) (Nat.le_of_ble_eq_true rfl) (C22 _ ?_)
              show zEv d 151 271 [.ref 1592, .int 10, .int (Int32.ofNat p), .int (Int32.ofNat deep), .int 3, .int (Int32.ofNat i9), .int (Int32.ofNat i13), .int (Int32.ofNat i17), .retAddr 0] [.int 1] S19 post
              refine zv_br ht rfl rfl rfl (fun _ => ?_) (fun h => absurd (by decide) h)
              refine zv_c1 ht rfl rfl (zv_c1 ht rfl rfl (zv_c1 ht rfl rfl ?_))
              refine zv_br ht rfl rfl rfl (fun _ => ?_) (fun h => absurd (by decide) h)
              refine zv_c1 ht rfl rfl (zv_c1 ht rfl rfl (zv_c1 ht rfl rfl ?_))
              refine zv_cl ht rfl rfl rfl rfl (by omega) (Nat.le_of_ble_eq_true rfl) (h1 S9 y9 i9 at9 rd9 nx9 hF9 e9 k9 t9 p9 g9 S11 hF11 e11 k11 p11 S13 y13 i13 at13 rd13 nx13 hF13 e13 k13 t13 p13 g13 S15 hF15 e15 k15 p15 S17 y17 i17 at17 rd17 nx17 hF17 e17 k17 t17 p17 g17 S19 hF19 e19 k19 p19)
            · show zEv d 151 267 [.ref 1592, .int 10, .int (Int32.ofNat p), .int (Int32.ofNat deep), .int 3, .int (Int32.ofNat i9), .int (Int32.ofNat i13), .int (Int32.ofNat i17), .retAddr 0] [] S20 post
              refine zv_c1 ht rfl rfl ?_
              have C26 : ∀ (pst25 : Outcome × zS → Prop), (pst25 (.returned (some (.int 0)), S20)) → zCall (d - 1) 125 [.ref 1592] S20 pst25 := by
                intro pst25 k28
                have ht27 : ztab 125 = ztb125 := rfl
                show zEv (d - 1) 125 0 [.ref 1592] [] S20 pst25
                refine zv_c1 ht27 rfl rfl ?_
                refine zv_e1 (x := 1) ht27 rfl rfl x20.1 ?_
                refine zv_br ht27 rfl rfl rfl (fun _ => ?_) (fun h => absurd (by decide) h)
                refine zv_c1 ht27 rfl rfl ?_
                exact zv_rc ht27 rfl rfl rfl rfl (by decide) k28
              refine zv_cl ht rfl rfl rfl rfl (by omega) (Nat.le_of_ble_eq_true rfl) (C26 _ ?_)
              show zEv d 151 271 [.ref 1592, .int 10, .int (Int32.ofNat p), .int (Int32.ofNat deep), .int 3, .int (Int32.ofNat i9), .int (Int32.ofNat i13), .int (Int32.ofNat i17), .retAddr 0] [.int 0] S20 post
              refine zv_br ht rfl rfl rfl (fun h => absurd h (by decide)) (fun _ => ?_)
              refine zv_c1 ht rfl rfl ?_
              exact zv_rt ht rfl rfl rfl rfl (h2 S9 y9 i9 at9 rd9 nx9 hF9 e9 k9 t9 p9 g9 S11 hF11 e11 k11 p11 S13 y13 i13 at13 rd13 nx13 hF13 e13 k13 t13 p13 g13 S15 hF15 e15 k15 p15 S17 y17 i17 at17 rd17 nx17 hF17 e17 k17 t17 p17 g17 S20 hF20 e20 k20 x20)
          · show zEv d 151 259 [.ref 1592, .int 10, .int (Int32.ofNat p), .int (Int32.ofNat deep), .int 3, .int (Int32.ofNat i9), .int (Int32.ofNat i13), .int (-1), .retAddr 0] [.int u18] S18 post
            refine zv_c2 (L' := [.ref 1592, .int 10, .int (Int32.ofNat p), .int (Int32.ofNat deep), .int 3, .int (Int32.ofNat i9), .int (Int32.ofNat i13), .int u18, .retAddr 0]) ht rfl rfl ?_
            refine zv_c1 ht rfl rfl (zv_c1 ht rfl rfl ?_)
            refine zv_cl ht rfl rfl rfl rfl (by omega) (Nat.le_of_ble_eq_true rfl) (m_wantX (S := S18) (w := 41) hF18 (by omega) x18 (by omega) ?_)
            show zEv d 151 267 [.ref 1592, .int 10, .int (Int32.ofNat p), .int (Int32.ofNat deep), .int 3, .int (Int32.ofNat i9), .int (Int32.ofNat i13), .int u18, .retAddr 0] [] S18 post
            refine zv_c1 ht rfl rfl ?_
            have C30 : ∀ (pst29 : Outcome × zS → Prop), (pst29 (.returned (some (.int 0)), S18)) → zCall (d - 1) 125 [.ref 1592] S18 pst29 := by
              intro pst29 k33
              have ht31 : ztab 125 = ztb125 := rfl
              show zEv (d - 1) 125 0 [.ref 1592] [] S18 pst29
              refine zv_c1 ht31 rfl rfl ?_
              refine zv_e1 (x := Int32.ofNat kk18) ht31 rfl rfl x18.1 ?_
              refine zv_br ht31 rfl rfl rfl (fun b32 => ?_) (fun b32 => (show False from by have hq := b32; have hz : kk18 = 0 := (zi_eqE (a := kk18) (b := 0) rfl rfl (by omega) (by omega)).mp (Classical.not_not.mp hq); omega).elim)
              refine zv_c1 ht31 rfl rfl ?_
              exact zv_rc ht31 rfl rfl rfl rfl (by decide) k33
            refine zv_cl ht rfl rfl rfl rfl (by omega) (Nat.le_of_ble_eq_true rfl) (C30 _ ?_)
            show zEv d 151 271 [.ref 1592, .int 10, .int (Int32.ofNat p), .int (Int32.ofNat deep), .int 3, .int (Int32.ofNat i9), .int (Int32.ofNat i13), .int u18, .retAddr 0] [.int 0] S18 post
            refine zv_br ht rfl rfl rfl (fun h => absurd h (by decide)) (fun _ => ?_)
            refine zv_c1 ht rfl rfl ?_
            exact zv_rt ht rfl rfl rfl rfl (h3 S9 y9 i9 at9 rd9 nx9 hF9 e9 k9 t9 p9 g9 S11 hF11 e11 k11 p11 S13 y13 i13 at13 rd13 nx13 hF13 e13 k13 t13 p13 g13 S15 hF15 e15 k15 p15 S18 u18 kk18 z18 hF18 e18 k18 x18 w18)
        · show zEv d 151 252 [.ref 1592, .int 10, .int (Int32.ofNat p), .int (Int32.ofNat deep), .int 3, .int (Int32.ofNat i9), .int (Int32.ofNat i13), .int (-1), .retAddr 0] [] S16 post
          refine zv_c1 ht rfl rfl (zv_c1 ht rfl rfl (zv_c1 ht rfl rfl ?_))
          refine zv_e1 (x := Int32.ofNat (deep + 1)) ht rfl rfl (zi_addE (a := deep) (b := 1) rfl rfl) ?_
          refine zv_cl ht rfl rfl rfl rfl (by omega) (Nat.le_of_ble_eq_true rfl) (m_fragX (S := S16) hF16 (by omega) x16 ?_)
          show zEv d 151 259 [.ref 1592, .int 10, .int (Int32.ofNat p), .int (Int32.ofNat deep), .int 3, .int (Int32.ofNat i9), .int (Int32.ofNat i13), .int (-1), .retAddr 0] [.int (-1)] S16 post
          refine zv_c2 (L' := [.ref 1592, .int 10, .int (Int32.ofNat p), .int (Int32.ofNat deep), .int 3, .int (Int32.ofNat i9), .int (Int32.ofNat i13), .int (-1), .retAddr 0]) ht rfl rfl ?_
          refine zv_c1 ht rfl rfl (zv_c1 ht rfl rfl ?_)
          refine zv_cl ht rfl rfl rfl rfl (by omega) (Nat.le_of_ble_eq_true rfl) (m_wantX (S := S16) (w := 41) hF16 (by omega) x16 (by omega) ?_)
          show zEv d 151 267 [.ref 1592, .int 10, .int (Int32.ofNat p), .int (Int32.ofNat deep), .int 3, .int (Int32.ofNat i9), .int (Int32.ofNat i13), .int (-1), .retAddr 0] [] S16 post
          refine zv_c1 ht rfl rfl ?_
          have C35 : ∀ (pst34 : Outcome × zS → Prop), (pst34 (.returned (some (.int 0)), S16)) → zCall (d - 1) 125 [.ref 1592] S16 pst34 := by
            intro pst34 k37
            have ht36 : ztab 125 = ztb125 := rfl
            show zEv (d - 1) 125 0 [.ref 1592] [] S16 pst34
            refine zv_c1 ht36 rfl rfl ?_
            refine zv_e1 (x := 1) ht36 rfl rfl x16.1 ?_
            refine zv_br ht36 rfl rfl rfl (fun _ => ?_) (fun h => absurd (by decide) h)
            refine zv_c1 ht36 rfl rfl ?_
            exact zv_rc ht36 rfl rfl rfl rfl (by decide) k37
          refine zv_cl ht rfl rfl rfl rfl (by omega) (Nat.le_of_ble_eq_true rfl) (C35 _ ?_)
          show zEv d 151 271 [.ref 1592, .int 10, .int (Int32.ofNat p), .int (Int32.ofNat deep), .int 3, .int (Int32.ofNat i9), .int (Int32.ofNat i13), .int (-1), .retAddr 0] [.int 0] S16 post
          refine zv_br ht rfl rfl rfl (fun h => absurd h (by decide)) (fun _ => ?_)
          refine zv_c1 ht rfl rfl ?_
          exact zv_rt ht rfl rfl rfl rfl (h4 S9 y9 i9 at9 rd9 nx9 hF9 e9 k9 t9 p9 g9 S11 hF11 e11 k11 p11 S13 y13 i13 at13 rd13 nx13 hF13 e13 k13 t13 p13 g13 S16 hF16 e16 k16 x16)
      · show zEv d 151 235 [.ref 1592, .int 10, .int (Int32.ofNat p), .int (Int32.ofNat deep), .int 3, .int (Int32.ofNat i9), .retAddr 0, .retAddr 0, .retAddr 0] [.int u14] S14 post
        refine zv_c2 (L' := [.ref 1592, .int 10, .int (Int32.ofNat p), .int (Int32.ofNat deep), .int 3, .int (Int32.ofNat i9), .int u14, .retAddr 0, .retAddr 0]) ht rfl rfl ?_
        refine zv_c1 ht rfl rfl ?_
        refine zv_c2 (L' := [.ref 1592, .int 10, .int (Int32.ofNat p), .int (Int32.ofNat deep), .int 3, .int (Int32.ofNat i9), .int u14, .int (-1), .retAddr 0]) ht rfl rfl ?_
        refine zv_c1 ht rfl rfl (zv_c1 ht rfl rfl ?_)
        refine zv_br ht rfl rfl rfl (fun h => absurd h (by decide)) (fun _ => ?_)
        refine zv_c1 ht rfl rfl (zv_c1 ht rfl rfl ?_)
        refine zv_cl ht rfl rfl rfl rfl (by omega) (Nat.le_of_ble_eq_true rfl) (m_wantX (S := S14) (w := 44) hF14 (by omega) x14 (by omega) ?_)
        show zEv d 151 252 [.ref 1592, .int 10, .int (Int32.ofNat p), .int (Int32.ofNat deep), .int 3, .int (Int32.ofNat i9), .int u14, .int (-1), .retAddr 0] [] S14 post
        refine zv_c1 ht rfl rfl (zv_c1 ht rfl rfl (zv_c1 ht rfl rfl ?_))
        refine zv_e1 (x := Int32.ofNat (deep + 1)) ht rfl rfl (zi_addE (a := deep) (b := 1) rfl rfl) ?_
        refine zv_cl ht rfl rfl rfl rfl (by omega) (Nat.le_of_ble_eq_true rfl) (m_fragX (S := S14) hF14 (by omega) x14 ?_)
        show zEv d 151 259 [.ref 1592, .int 10, .int (Int32.ofNat p), .int (Int32.ofNat deep), .int 3, .int (Int32.ofNat i9), .int u14, .int (-1), .retAddr 0] [.int (-1)] S14 post
        refine zv_c2 (L' := [.ref 1592, .int 10, .int (Int32.ofNat p), .int (Int32.ofNat deep), .int 3, .int (Int32.ofNat i9), .int u14, .int (-1), .retAddr 0]) ht rfl rfl ?_
        refine zv_c1 ht rfl rfl (zv_c1 ht rfl rfl ?_)
        refine zv_cl ht rfl rfl rfl rfl (by omega) (Nat.le_of_ble_eq_true rfl) (m_wantX (S := S14) (w := 41) hF14 (by omega) x14 (by omega) ?_)
        show zEv d 151 267 [.ref 1592, .int 10, .int (Int32.ofNat p), .int (Int32.ofNat deep), .int 3, .int (Int32.ofNat i9), .int u14, .int (-1), .retAddr 0] [] S14 post
        refine zv_c1 ht rfl rfl ?_
        have C39 : ∀ (pst38 : Outcome × zS → Prop), (pst38 (.returned (some (.int 0)), S14)) → zCall (d - 1) 125 [.ref 1592] S14 pst38 := by
          intro pst38 k42
          have ht40 : ztab 125 = ztb125 := rfl
          show zEv (d - 1) 125 0 [.ref 1592] [] S14 pst38
          refine zv_c1 ht40 rfl rfl ?_
          refine zv_e1 (x := Int32.ofNat kk14) ht40 rfl rfl x14.1 ?_
          refine zv_br ht40 rfl rfl rfl (fun b41 => ?_) (fun b41 => (show False from by have hq := b41; have hz : kk14 = 0 := (zi_eqE (a := kk14) (b := 0) rfl rfl (by omega) (by omega)).mp (Classical.not_not.mp hq); omega).elim)
          refine zv_c1 ht40 rfl rfl ?_
          exact zv_rc ht40 rfl rfl rfl rfl (by decide) k42
        refine zv_cl ht rfl rfl rfl rfl (by omega) (Nat.le_of_ble_eq_true rfl) (C39 _ ?_)
        show zEv d 151 271 [.ref 1592, .int 10, .int (Int32.ofNat p), .int (Int32.ofNat deep), .int 3, .int (Int32.ofNat i9), .int u14, .int (-1), .retAddr 0] [.int 0] S14 post
        refine zv_br ht rfl rfl rfl (fun h => absurd h (by decide)) (fun _ => ?_)
        refine zv_c1 ht rfl rfl ?_
        exact zv_rt ht rfl rfl rfl rfl (h5 S9 y9 i9 at9 rd9 nx9 hF9 e9 k9 t9 p9 g9 S11 hF11 e11 k11 p11 S14 u14 kk14 z14 hF14 e14 k14 x14 w14)
    · show zEv d 151 228 [.ref 1592, .int 10, .int (Int32.ofNat p), .int (Int32.ofNat deep), .int 3, .int (Int32.ofNat i9), .retAddr 0, .retAddr 0, .retAddr 0] [] S12 post
      refine zv_c1 ht rfl rfl (zv_c1 ht rfl rfl (zv_c1 ht rfl rfl ?_))
      refine zv_e1 (x := Int32.ofNat (deep + 1)) ht rfl rfl (zi_addE (a := deep) (b := 1) rfl rfl) ?_
      refine zv_cl ht rfl rfl rfl rfl (by omega) (Nat.le_of_ble_eq_true rfl) (m_fragX (S := S12) hF12 (by omega) x12 ?_)
      show zEv d 151 235 [.ref 1592, .int 10, .int (Int32.ofNat p), .int (Int32.ofNat deep), .int 3, .int (Int32.ofNat i9), .retAddr 0, .retAddr 0, .retAddr 0] [.int (-1)] S12 post
      refine zv_c2 (L' := [.ref 1592, .int 10, .int (Int32.ofNat p), .int (Int32.ofNat deep), .int 3, .int (Int32.ofNat i9), .int (-1), .retAddr 0, .retAddr 0]) ht rfl rfl ?_
      refine zv_c1 ht rfl rfl ?_
      refine zv_c2 (L' := [.ref 1592, .int 10, .int (Int32.ofNat p), .int (Int32.ofNat deep), .int 3, .int (Int32.ofNat i9), .int (-1), .int (-1), .retAddr 0]) ht rfl rfl ?_
      refine zv_c1 ht rfl rfl (zv_c1 ht rfl rfl ?_)
      refine zv_br ht rfl rfl rfl (fun h => absurd h (by decide)) (fun _ => ?_)
      refine zv_c1 ht rfl rfl (zv_c1 ht rfl rfl ?_)
      refine zv_cl ht rfl rfl rfl rfl (by omega) (Nat.le_of_ble_eq_true rfl) (m_wantX (S := S12) (w := 44) hF12 (by omega) x12 (by omega) ?_)
      show zEv d 151 252 [.ref 1592, .int 10, .int (Int32.ofNat p), .int (Int32.ofNat deep), .int 3, .int (Int32.ofNat i9), .int (-1), .int (-1), .retAddr 0] [] S12 post
      refine zv_c1 ht rfl rfl (zv_c1 ht rfl rfl (zv_c1 ht rfl rfl ?_))
      refine zv_e1 (x := Int32.ofNat (deep + 1)) ht rfl rfl (zi_addE (a := deep) (b := 1) rfl rfl) ?_
      refine zv_cl ht rfl rfl rfl rfl (by omega) (Nat.le_of_ble_eq_true rfl) (m_fragX (S := S12) hF12 (by omega) x12 ?_)
      show zEv d 151 259 [.ref 1592, .int 10, .int (Int32.ofNat p), .int (Int32.ofNat deep), .int 3, .int (Int32.ofNat i9), .int (-1), .int (-1), .retAddr 0] [.int (-1)] S12 post
      refine zv_c2 (L' := [.ref 1592, .int 10, .int (Int32.ofNat p), .int (Int32.ofNat deep), .int 3, .int (Int32.ofNat i9), .int (-1), .int (-1), .retAddr 0]) ht rfl rfl ?_
      refine zv_c1 ht rfl rfl (zv_c1 ht rfl rfl ?_)
      refine zv_cl ht rfl rfl rfl rfl (by omega) (Nat.le_of_ble_eq_true rfl) (m_wantX (S := S12) (w := 41) hF12 (by omega) x12 (by omega) ?_)
      show zEv d 151 267 [.ref 1592, .int 10, .int (Int32.ofNat p), .int (Int32.ofNat deep), .int 3, .int (Int32.ofNat i9), .int (-1), .int (-1), .retAddr 0] [] S12 post
      refine zv_c1 ht rfl rfl ?_
      have C44 : ∀ (pst43 : Outcome × zS → Prop), (pst43 (.returned (some (.int 0)), S12)) → zCall (d - 1) 125 [.ref 1592] S12 pst43 := by
        intro pst43 k46
        have ht45 : ztab 125 = ztb125 := rfl
        show zEv (d - 1) 125 0 [.ref 1592] [] S12 pst43
        refine zv_c1 ht45 rfl rfl ?_
        refine zv_e1 (x := 1) ht45 rfl rfl x12.1 ?_
        refine zv_br ht45 rfl rfl rfl (fun _ => ?_) (fun h => absurd (by decide) h)
        refine zv_c1 ht45 rfl rfl ?_
        exact zv_rc ht45 rfl rfl rfl rfl (by decide) k46
      refine zv_cl ht rfl rfl rfl rfl (by omega) (Nat.le_of_ble_eq_true rfl) (C44 _ ?_)
      show zEv d 151 271 [.ref 1592, .int 10, .int (Int32.ofNat p), .int (Int32.ofNat deep), .int 3, .int (Int32.ofNat i9), .int (-1), .int (-1), .retAddr 0] [.int 0] S12 post
      refine zv_br ht rfl rfl rfl (fun h => absurd h (by decide)) (fun _ => ?_)
      refine zv_c1 ht rfl rfl ?_
      exact zv_rt ht rfl rfl rfl rfl (h6 S9 y9 i9 at9 rd9 nx9 hF9 e9 k9 t9 p9 g9 S12 hF12 e12 k12 x12)
  · show zEv d 151 220 [.ref 1592, .int 10, .int (Int32.ofNat p), .int (Int32.ofNat deep), .int 3, .retAddr 0, .retAddr 0, .retAddr 0, .retAddr 0] [.int u10] S10 post
    refine zv_c2 (L' := [.ref 1592, .int 10, .int (Int32.ofNat p), .int (Int32.ofNat deep), .int 3, .int u10, .retAddr 0, .retAddr 0, .retAddr 0]) ht rfl rfl ?_
    refine zv_c1 ht rfl rfl (zv_c1 ht rfl rfl ?_)
    refine zv_cl ht rfl rfl rfl rfl (by omega) (Nat.le_of_ble_eq_true rfl) (m_wantX (S := S10) (w := 44) hF10 (by omega) x10 (by omega) ?_)
    show zEv d 151 228 [.ref 1592, .int 10, .int (Int32.ofNat p), .int (Int32.ofNat deep), .int 3, .int u10, .retAddr 0, .retAddr 0, .retAddr 0] [] S10 post
    refine zv_c1 ht rfl rfl (zv_c1 ht rfl rfl (zv_c1 ht rfl rfl ?_))
    refine zv_e1 (x := Int32.ofNat (deep + 1)) ht rfl rfl (zi_addE (a := deep) (b := 1) rfl rfl) ?_
    refine zv_cl ht rfl rfl rfl rfl (by omega) (Nat.le_of_ble_eq_true rfl) (m_fragX (S := S10) hF10 (by omega) x10 ?_)
    show zEv d 151 235 [.ref 1592, .int 10, .int (Int32.ofNat p), .int (Int32.ofNat deep), .int 3, .int u10, .retAddr 0, .retAddr 0, .retAddr 0] [.int (-1)] S10 post
    refine zv_c2 (L' := [.ref 1592, .int 10, .int (Int32.ofNat p), .int (Int32.ofNat deep), .int 3, .int u10, .int (-1), .retAddr 0, .retAddr 0]) ht rfl rfl ?_
    refine zv_c1 ht rfl rfl ?_
    refine zv_c2 (L' := [.ref 1592, .int 10, .int (Int32.ofNat p), .int (Int32.ofNat deep), .int 3, .int u10, .int (-1), .int (-1), .retAddr 0]) ht rfl rfl ?_
    refine zv_c1 ht rfl rfl (zv_c1 ht rfl rfl ?_)
    refine zv_br ht rfl rfl rfl (fun h => absurd h (by decide)) (fun _ => ?_)
    refine zv_c1 ht rfl rfl (zv_c1 ht rfl rfl ?_)
    refine zv_cl ht rfl rfl rfl rfl (by omega) (Nat.le_of_ble_eq_true rfl) (m_wantX (S := S10) (w := 44) hF10 (by omega) x10 (by omega) ?_)
    show zEv d 151 252 [.ref 1592, .int 10, .int (Int32.ofNat p), .int (Int32.ofNat deep), .int 3, .int u10, .int (-1), .int (-1), .retAddr 0] [] S10 post
    refine zv_c1 ht rfl rfl (zv_c1 ht rfl rfl (zv_c1 ht rfl rfl ?_))
    refine zv_e1 (x := Int32.ofNat (deep + 1)) ht rfl rfl (zi_addE (a := deep) (b := 1) rfl rfl) ?_
    refine zv_cl ht rfl rfl rfl rfl (by omega) (Nat.le_of_ble_eq_true rfl) (m_fragX (S := S10) hF10 (by omega) x10 ?_)
    show zEv d 151 259 [.ref 1592, .int 10, .int (Int32.ofNat p), .int (Int32.ofNat deep), .int 3, .int u10, .int (-1), .int (-1), .retAddr 0] [.int (-1)] S10 post
    refine zv_c2 (L' := [.ref 1592, .int 10, .int (Int32.ofNat p), .int (Int32.ofNat deep), .int 3, .int u10, .int (-1), .int (-1), .retAddr 0]) ht rfl rfl ?_
    refine zv_c1 ht rfl rfl (zv_c1 ht rfl rfl ?_)
    refine zv_cl ht rfl rfl rfl rfl (by omega) (Nat.le_of_ble_eq_true rfl) (m_wantX (S := S10) (w := 41) hF10 (by omega) x10 (by omega) ?_)
    show zEv d 151 267 [.ref 1592, .int 10, .int (Int32.ofNat p), .int (Int32.ofNat deep), .int 3, .int u10, .int (-1), .int (-1), .retAddr 0] [] S10 post
    refine zv_c1 ht rfl rfl ?_
    have C48 : ∀ (pst47 : Outcome × zS → Prop), (pst47 (.returned (some (.int 0)), S10)) → zCall (d - 1) 125 [.ref 1592] S10 pst47 := by
      intro pst47 k51
      have ht49 : ztab 125 = ztb125 := rfl
      show zEv (d - 1) 125 0 [.ref 1592] [] S10 pst47
      refine zv_c1 ht49 rfl rfl ?_
      refine zv_e1 (x := Int32.ofNat kk10) ht49 rfl rfl x10.1 ?_
      refine zv_br ht49 rfl rfl rfl (fun b50 => ?_) (fun b50 => (show False from by have hq := b50; have hz : kk10 = 0 := (zi_eqE (a := kk10) (b := 0) rfl rfl (by omega) (by omega)).mp (Classical.not_not.mp hq); omega).elim)
      refine zv_c1 ht49 rfl rfl ?_
      exact zv_rc ht49 rfl rfl rfl rfl (by decide) k51
    refine zv_cl ht rfl rfl rfl rfl (by omega) (Nat.le_of_ble_eq_true rfl) (C48 _ ?_)
    show zEv d 151 271 [.ref 1592, .int 10, .int (Int32.ofNat p), .int (Int32.ofNat deep), .int 3, .int u10, .int (-1), .int (-1), .retAddr 0] [.int 0] S10 post
    refine zv_br ht rfl rfl rfl (fun h => absurd h (by decide)) (fun _ => ?_)
    refine zv_c1 ht rfl rfl ?_
    exact zv_rt ht rfl rfl rfl rfl (h7 S10 u10 kk10 z10 hF10 e10 k10 x10 w10)

theorem ib_11 {d : Nat} {S : zS} (hF : zFin true S) (hd : 3 ≤ d) {tp : Nat → Nat} {sz at0 rd nx wt B : Nat} {rec : Nat → Nat → Nat → pE (zNd × Nat × Nat)} (p deep : Nat)  (hP : mP tp sz S at0 rd nx wt) (hp : p ≤ 300) (hdp : deep < 2000) (hrd : rd ≤ 80) (hs0 : sz ≤ 300) (ha0 : at0 ≤ sz) (hB : nx + 2 * (sz - at0) + 3 ≤ B) (hB3 : B ≤ 3000) (hwt : wt + (sz - at0) ≤ 2000) (hR : mRd tp sz B (d - 1) (deep + 1) rec) {post : Outcome × zS → Prop} (h1 : ∀ S9 : zS, ∀ y9 : zNd, ∀ i9 : Nat, ∀ at9 : Nat, ∀ rd9 : Nat, ∀ nx9 : Nat, (zFin true S9) → (rec (deep + 1) at0 rd = .ok (y9, at9, rd9)) → (mFr B nx wt S S9) → (mT true S9 nx nx9 y9 i9) → (mP tp sz S9 at9 rd9 nx9 wt) → (at0 < at9 ∧ at9 ≤ sz ∧ nx9 ≤ nx + 2 * (at9 - at0) ∧ rd9 ≤ 80 ∧ nx < nx9 ∧ i9 < 3000) → ∀ S11 : zS, (zFin true S11) → (pWant tp sz 44 at9 = .ok (at9 + 1)) → (mFr B nx9 wt S9 S11) → (mP tp sz S11 (at9 + 1) rd9 nx9 wt) → ∀ S13 : zS, ∀ y13 : zNd, ∀ i13 : Nat, ∀ at13 : Nat, ∀ rd13 : Nat, ∀ nx13 : Nat, (zFin true S13) → (rec (deep + 1) (at9 + 1) rd9 = .ok (y13, at13, rd13)) → (mFr B nx9 wt S11 S13) → (mT true S13 nx9 nx13 y13 i13) → (mP tp sz S13 at13 rd13 nx13 wt) → ((at9 + 1) < at13 ∧ at13 ≤ sz ∧ nx13 ≤ nx9 + 2 * (at13 - (at9 + 1)) ∧ rd13 ≤ 80 ∧ nx9 < nx13 ∧ i13 < 3000) → ∀ S15 : zS, (zFin true S15) → (pWant tp sz 41 at13 = .ok (at13 + 1)) → (mFr B nx13 wt S13 S15) → (mP tp sz S15 (at13 + 1) rd13 nx13 wt) → zCall (d - 1) 133 [.ref 1592, .int 11, .int 0, .int (Int32.ofNat p)] S15 (zAf d 151 291 [.ref 1592, .int 11, .int (Int32.ofNat p), .int (Int32.ofNat deep), .int 2, .int (Int32.ofNat i9), .int (Int32.ofNat i13), .int (-1), .retAddr 0] [] post)) (h2 : ∀ S9 : zS, ∀ y9 : zNd, ∀ i9 : Nat, ∀ at9 : Nat, ∀ rd9 : Nat, ∀ nx9 : Nat, (zFin true S9) → (rec (deep + 1) at0 rd = .ok (y9, at9, rd9)) → (mFr B nx wt S S9) → (mT true S9 nx nx9 y9 i9) → (mP tp sz S9 at9 rd9 nx9 wt) → (at0 < at9 ∧ at9 ≤ sz ∧ nx9 ≤ nx + 2 * (at9 - at0) ∧ rd9 ≤ 80 ∧ nx < nx9 ∧ i9 < 3000) → ∀ S11 : zS, (zFin true S11) → (pWant tp sz 44 at9 = .ok (at9 + 1)) → (mFr B nx9 wt S9 S11) → (mP tp sz S11 (at9 + 1) rd9 nx9 wt) → ∀ S13 : zS, ∀ y13 : zNd, ∀ i13 : Nat, ∀ at13 : Nat, ∀ rd13 : Nat, ∀ nx13 : Nat, (zFin true S13) → (rec (deep + 1) (at9 + 1) rd9 = .ok (y13, at13, rd13)) → (mFr B nx9 wt S11 S13) → (mT true S13 nx9 nx13 y13 i13) → (mP tp sz S13 at13 rd13 nx13 wt) → ((at9 + 1) < at13 ∧ at13 ≤ sz ∧ nx13 ≤ nx9 + 2 * (at13 - (at9 + 1)) ∧ rd13 ≤ 80 ∧ nx9 < nx13 ∧ i13 < 3000) → ∀ S16 : zS, (zFin true S16) → (pWant tp sz 41 at13 = .error (1, at13)) → (mFr B nx13 wt S13 S16) → (mX S16 1 at13) → post (.returned (some (.int (-1))), S16)) (h3 : ∀ S9 : zS, ∀ y9 : zNd, ∀ i9 : Nat, ∀ at9 : Nat, ∀ rd9 : Nat, ∀ nx9 : Nat, (zFin true S9) → (rec (deep + 1) at0 rd = .ok (y9, at9, rd9)) → (mFr B nx wt S S9) → (mT true S9 nx nx9 y9 i9) → (mP tp sz S9 at9 rd9 nx9 wt) → (at0 < at9 ∧ at9 ≤ sz ∧ nx9 ≤ nx + 2 * (at9 - at0) ∧ rd9 ≤ 80 ∧ nx < nx9 ∧ i9 < 3000) → ∀ S11 : zS, (zFin true S11) → (pWant tp sz 44 at9 = .ok (at9 + 1)) → (mFr B nx9 wt S9 S11) → (mP tp sz S11 (at9 + 1) rd9 nx9 wt) → ∀ S14 : zS, ∀ u14 : Int32, ∀ kk14 : Nat, ∀ z14 : Nat, (zFin true S14) → (rec (deep + 1) (at9 + 1) rd9 = .error (kk14, z14)) → (mFr B nx9 wt S11 S14) → (mX S14 kk14 z14) → (0 < kk14 ∧ kk14 < 4) → post (.returned (some (.int (-1))), S14)) (h4 : ∀ S9 : zS, ∀ y9 : zNd, ∀ i9 : Nat, ∀ at9 : Nat, ∀ rd9 : Nat, ∀ nx9 : Nat, (zFin true S9) → (rec (deep + 1) at0 rd = .ok (y9, at9, rd9)) → (mFr B nx wt S S9) → (mT true S9 nx nx9 y9 i9) → (mP tp sz S9 at9 rd9 nx9 wt) → (at0 < at9 ∧ at9 ≤ sz ∧ nx9 ≤ nx + 2 * (at9 - at0) ∧ rd9 ≤ 80 ∧ nx < nx9 ∧ i9 < 3000) → ∀ S12 : zS, (zFin true S12) → (pWant tp sz 44 at9 = .error (1, at9)) → (mFr B nx9 wt S9 S12) → (mX S12 1 at9) → post (.returned (some (.int (-1))), S12)) (h5 : ∀ S10 : zS, ∀ u10 : Int32, ∀ kk10 : Nat, ∀ z10 : Nat, (zFin true S10) → (rec (deep + 1) at0 rd = .error (kk10, z10)) → (mFr B nx wt S S10) → (mX S10 kk10 z10) → (0 < kk10 ∧ kk10 < 4) → post (.returned (some (.int (-1))), S10)) : zCall d 151 [.ref 1592, .int 11, .int (Int32.ofNat p), .int (Int32.ofNat deep)] S post := by
  have ht : ztab 151 = ztb151 := rfl
  show zEv d 151 0 [.ref 1592, .int 11, .int (Int32.ofNat p), .int (Int32.ofNat deep), .retAddr 0, .retAddr 0, .retAddr 0, .retAddr 0, .retAddr 0] [] S post
  refine zv_c1 ht rfl rfl ?_
  have C2 : ∀ (pst1 : Outcome × zS → Prop), (pst1 (.returned (some (.int 1)), S)) → zCall (d - 1) 125 [.ref 1592] S pst1 := by
    intro pst1 k4
    have ht3 : ztab 125 = ztb125 := rfl
    show zEv (d - 1) 125 0 [.ref 1592] [] S pst1
    refine zv_c1 ht3 rfl rfl ?_
    refine zv_e1 (x := 0) ht3 rfl rfl hP.1.2.2.1 ?_
    refine zv_br ht3 rfl rfl rfl (fun h => absurd h (by decide)) (fun _ => ?_)
    refine zv_c1 ht3 rfl rfl (zv_c1 ht3 rfl rfl ?_)
    exact zv_rc ht3 rfl rfl rfl rfl (by decide) k4
  refine zv_cl ht rfl rfl rfl rfl (by omega) (Nat.le_of_ble_eq_true rfl) (C2 _ ?_)
  show zEv d 151 4 [.ref 1592, .int 11, .int (Int32.ofNat p), .int (Int32.ofNat deep), .retAddr 0, .retAddr 0, .retAddr 0, .retAddr 0, .retAddr 0] [.int 1] S post
  refine zv_br ht rfl rfl rfl (fun _ => ?_) (fun h => absurd (by decide) h)
  refine zv_c1 ht rfl rfl (zv_c1 ht rfl rfl ?_)
  refine zv_br ht rfl rfl rfl (fun h => absurd h (by decide)) (fun _ => ?_)
  refine zv_c1 ht rfl rfl (zv_c1 ht rfl rfl ?_)
  refine zv_br ht rfl rfl rfl (fun h => absurd h (by decide)) (fun _ => ?_)
  refine zv_c1 ht rfl rfl (zv_c1 ht rfl rfl ?_)
  refine zv_br ht rfl rfl rfl (fun h => absurd h (by decide)) (fun _ => ?_)
  refine zv_c1 ht rfl rfl (zv_c1 ht rfl rfl ?_)
  refine zv_br ht rfl rfl rfl (fun _ => ?_) (fun h => absurd (by decide) h)
  refine zv_c1 ht rfl rfl (zv_c1 ht rfl rfl ?_)
  refine zv_br ht rfl rfl rfl (fun h => absurd h (by decide)) (fun _ => ?_)
  refine zv_c1 ht rfl rfl (zv_c1 ht rfl rfl ?_)
  refine zv_br ht rfl rfl rfl (fun h => absurd h (by decide)) (fun _ => ?_)
  refine zv_c1 ht rfl rfl (zv_c1 ht rfl rfl (zv_c1 ht rfl rfl ?_))
  have C6 : ∀ (pst5 : Outcome × zS → Prop), (pst5 (.returned (some (.int 0)), S)) → zCall (d - 1) 102 [.int 11, .int 6, .int 9] S pst5 := by
    intro pst5 k8
    have ht7 : ztab 102 = ztb102 := rfl
    show zEv (d - 1) 102 0 [.int 11, .int 6, .int 9] [] S pst5
    refine zv_c1 ht7 rfl rfl (zv_c1 ht7 rfl rfl ?_)
    refine zv_br ht7 rfl rfl rfl (fun h => absurd h (by decide)) (fun _ => ?_)
    refine zv_c1 ht7 rfl rfl (zv_c1 ht7 rfl rfl ?_)
    refine zv_br ht7 rfl rfl rfl (fun _ => ?_) (fun h => absurd (by decide) h)
    refine zv_c1 ht7 rfl rfl ?_
    exact zv_rc ht7 rfl rfl rfl rfl (by decide) k8
  refine zv_cl ht rfl rfl rfl rfl (by omega) (Nat.le_of_ble_eq_true rfl) (C6 _ ?_)
  show zEv d 151 124 [.ref 1592, .int 11, .int (Int32.ofNat p), .int (Int32.ofNat deep), .retAddr 0, .retAddr 0, .retAddr 0, .retAddr 0, .retAddr 0] [.int 0] S post
  refine zv_br ht rfl rfl rfl (fun _ => ?_) (fun h => absurd (by decide) h)
  refine zv_c1 ht rfl rfl (zv_c1 ht rfl rfl ?_)
  refine zv_br ht rfl rfl rfl (fun h => absurd h (by decide)) (fun _ => ?_)
  refine zv_c1 ht rfl rfl (zv_c1 ht rfl rfl ?_)
  refine zv_br ht rfl rfl rfl (fun _ => ?_) (fun h => absurd (by decide) h)
  refine zv_c1 ht rfl rfl (zv_c1 ht rfl rfl ?_)
  refine zv_br ht rfl rfl rfl (fun _ => ?_) (fun h => absurd (by decide) h)
  refine zv_c1 ht rfl rfl ?_
  refine zv_c2 (L' := [.ref 1592, .int 11, .int (Int32.ofNat p), .int (Int32.ofNat deep), .int 2, .retAddr 0, .retAddr 0, .retAddr 0, .retAddr 0]) ht rfl rfl ?_
  refine zv_c1 ht rfl rfl (zv_c1 ht rfl rfl (zv_c1 ht rfl rfl ?_))
  refine zv_e1 (x := Int32.ofNat (deep + 1)) ht rfl rfl (zi_addE (a := deep) (b := 1) rfl rfl) ?_
  refine zv_cl ht rfl rfl rfl rfl (by omega) (Nat.le_of_ble_eq_true rfl) (hR (S := S) (nx := nx) (wt := wt) hF hP (by omega) (by omega) (by omega) (fun S9 y9 i9 at9 rd9 nx9 hF9 e9 k9 t9 p9 g9 => ?_) (fun S10 u10 kk10 z10 hF10 e10 k10 x10 w10 => ?_))
  · show zEv d 151 220 [.ref 1592, .int 11, .int (Int32.ofNat p), .int (Int32.ofNat deep), .int 2, .retAddr 0, .retAddr 0, .retAddr 0, .retAddr 0] [.int (Int32.ofNat i9)] S9 post
    refine zv_c2 (L' := [.ref 1592, .int 11, .int (Int32.ofNat p), .int (Int32.ofNat deep), .int 2, .int (Int32.ofNat i9), .retAddr 0, .retAddr 0, .retAddr 0]) ht rfl rfl ?_
    refine zv_c1 ht rfl rfl (zv_c1 ht rfl rfl ?_)
    refine zv_cl ht rfl rfl rfl rfl (by omega) (Nat.le_of_ble_eq_true rfl) (m_want (S := S9) (tp := tp) (sz := sz) (B := B) (w := 44) hF9 (by omega) p9 (by omega) (by omega) (fun S11 hF11 e11 k11 p11 => ?_) (fun S12 hF12 e12 k12 x12 => ?_))
    · show zEv d 151 228 [.ref 1592, .int 11, .int (Int32.ofNat p), .int (Int32.ofNat deep), .int 2, .int (Int32.ofNat i9), .retAddr 0, .retAddr 0, .retAddr 0] [] S11 post
      refine zv_c1 ht rfl rfl (zv_c1 ht rfl rfl (zv_c1 ht rfl rfl ?_))
      refine zv_e1 (x := Int32.ofNat (deep + 1)) ht rfl rfl (zi_addE (a := deep) (b := 1) rfl rfl) ?_
      refine zv_cl ht rfl rfl rfl rfl (by omega) (Nat.le_of_ble_eq_true rfl) (hR (S := S11) (nx := nx9) (wt := wt) hF11 p11 (by omega) (by omega) (by omega) (fun S13 y13 i13 at13 rd13 nx13 hF13 e13 k13 t13 p13 g13 => ?_) (fun S14 u14 kk14 z14 hF14 e14 k14 x14 w14 => ?_))
      · show zEv d 151 235 [.ref 1592, .int 11, .int (Int32.ofNat p), .int (Int32.ofNat deep), .int 2, .int (Int32.ofNat i9), .retAddr 0, .retAddr 0, .retAddr 0] [.int (Int32.ofNat i13)] S13 post
        refine zv_c2 (L' := [.ref 1592, .int 11, .int (Int32.ofNat p), .int (Int32.ofNat deep), .int 2, .int (Int32.ofNat i9), .int (Int32.ofNat i13), .retAddr 0, .retAddr 0]) ht rfl rfl ?_
        refine zv_c1 ht rfl rfl ?_
        refine zv_c2 (L' := [.ref 1592, .int 11, .int (Int32.ofNat p), .int (Int32.ofNat deep), .int 2, .int (Int32.ofNat i9), .int (Int32.ofNat i13), .int (-1), .retAddr 0]) ht rfl rfl ?_
        refine zv_c1 ht rfl rfl (zv_c1 ht rfl rfl ?_)
        refine zv_br ht rfl rfl rfl (fun _ => ?_) (fun h => absurd (by decide) h)
        refine zv_c1 ht rfl rfl (zv_c1 ht rfl rfl ?_)
        refine zv_cl ht rfl rfl rfl rfl (by omega) (Nat.le_of_ble_eq_true rfl) (m_want (S := S13) (tp := tp) (sz := sz) (B := B) (w := 41) hF13 (by omega) p13 (by omega) (by omega) (fun S15 hF15 e15 k15 p15 => ?_) (fun S16 hF16 e16 k16 x16 => ?_))
        · show zEv d 151 267 [.ref 1592, .int 11, .int (Int32.ofNat p), .int (Int32.ofNat deep), .int 2, .int (Int32.ofNat i9), .int (Int32.ofNat i13), .int (-1), .retAddr 0] [] S15 post
          refine zv_c1 ht rfl rfl ?_
          have C18 : ∀ (pst17 : Outcome × zS → Prop), (pst17 (.returned (some (.int 1)), S15)) → zCall (d - 1) 125 [.ref 1592] S15 pst17 := by
            intro pst17 k20
            have ht19 : ztab 125 = ztb125 := rfl
            show zEv (d - 1) 125 0 [.ref 1592] [] S15 pst17
            refine zv_c1 ht19 rfl rfl ?_
            refine zv_e1 (x := 0) ht19 rfl rfl p15.1.2.2.1 ?_
            refine zv_br ht19 rfl rfl rfl (fun h => absurd h (by decide)) (fun _ => ?_)
            refine zv_c1 ht19 rfl rfl (zv_c1 ht19 rfl rfl ?_)
            exact zv_rc ht19 rfl rfl rfl rfl (by decide) k20
          refine zv_cl ht rfl rfl rfl rfl (by omega) (Nat.le_of_ble_eq_true rfl) (C18 _ ?_)
          show zEv d 151 271 [.ref 1592, .int 11, .int (Int32.ofNat p), .int (Int32.ofNat deep), .int 2, .int (Int32.ofNat i9), .int (Int32.ofNat i13), .int (-1), .retAddr 0] [.int 1] S15 post
          refine zv_br ht rfl rfl rfl (fun _ => ?_) (fun h => absurd (by decide) h)
          refine zv_c1 ht rfl rfl (zv_c1 ht rfl rfl (zv_c1 ht rfl rfl ?_))
          refine zv_br ht rfl rfl rfl (fun _ => ?_) (fun h => absurd (by decide) h)
          refine zv_c1 ht rfl rfl (zv_c1 ht rfl rfl (zv_c1 ht rfl rfl ?_))
          refine zv_cl ht rfl rfl rfl rfl (by omega) (Nat.le_of_ble_eq_true rfl) (h1 S9 y9 i9 at9 rd9 nx9 hF9 e9 k9 t9 p9 g9 S11 hF11 e11 k11 p11 S13 y13 i13 at13 rd13 nx13 hF13 e13 k13 t13 p13 g13 S15 hF15 e15 k15 p15)
        · show zEv d 151 267 [.ref 1592, .int 11, .int (Int32.ofNat p), .int (Int32.ofNat deep), .int 2, .int (Int32.ofNat i9), .int (Int32.ofNat i13), .int (-1), .retAddr 0] [] S16 post
          refine zv_c1 ht rfl rfl ?_
          have C22 : ∀ (pst21 : Outcome × zS → Prop), (pst21 (.returned (some (.int 0)), S16)) → zCall (d - 1) 125 [.ref 1592] S16 pst21 := by
            intro pst21 k24
            have ht23 : ztab 125 = ztb125 := rfl
            show zEv (d - 1) 125 0 [.ref 1592] [] S16 pst21
            refine zv_c1 ht23 rfl rfl ?_
            refine zv_e1 (x := 1) ht23 rfl rfl x16.1 ?_
            refine zv_br ht23 rfl rfl rfl (fun _ => ?_) (fun h => absurd (by decide) h)
            refine zv_c1 ht23 rfl rfl ?_
            exact zv_rc ht23 rfl rfl rfl rfl (by decide) k24
          refine zv_cl ht rfl rfl rfl rfl (by omega) (Nat.le_of_ble_eq_true rfl) (C22 _ ?_)
          show zEv d 151 271 [.ref 1592, .int 11, .int (Int32.ofNat p), .int (Int32.ofNat deep), .int 2, .int (Int32.ofNat i9), .int (Int32.ofNat i13), .int (-1), .retAddr 0] [.int 0] S16 post
          refine zv_br ht rfl rfl rfl (fun h => absurd h (by decide)) (fun _ => ?_)
          refine zv_c1 ht rfl rfl ?_
          exact zv_rt ht rfl rfl rfl rfl (h2 S9 y9 i9 at9 rd9 nx9 hF9 e9 k9 t9 p9 g9 S11 hF11 e11 k11 p11 S13 y13 i13 at13 rd13 nx13 hF13 e13 k13 t13 p13 g13 S16 hF16 e16 k16 x16)
      · show zEv d 151 235 [.ref 1592, .int 11, .int (Int32.ofNat p), .int (Int32.ofNat deep), .int 2, .int (Int32.ofNat i9), .retAddr 0, .retAddr 0, .retAddr 0] [.int u14] S14 post
        refine zv_c2 (L' := [.ref 1592, .int 11, .int (Int32.ofNat p), .int (Int32.ofNat deep), .int 2, .int (Int32.ofNat i9), .int u14, .retAddr 0, .retAddr 0]) ht rfl rfl ?_
        refine zv_c1 ht rfl rfl ?_
        refine zv_c2 (L' := [.ref 1592, .int 11, .int (Int32.ofNat p), .int (Int32.ofNat deep), .int 2, .int (Int32.ofNat i9), .int u14, .int (-1), .retAddr 0]) ht rfl rfl ?_
        refine zv_c1 ht rfl rfl (zv_c1 ht rfl rfl ?_)
        refine zv_br ht rfl rfl rfl (fun _ => ?_) (fun h => absurd (by decide) h)
        refine zv_c1 ht rfl rfl (zv_c1 ht rfl rfl ?_)
        refine zv_cl ht rfl rfl rfl rfl (by omega) (Nat.le_of_ble_eq_true rfl) (m_wantX (S := S14) (w := 41) hF14 (by omega) x14 (by omega) ?_)
        show zEv d 151 267 [.ref 1592, .int 11, .int (Int32.ofNat p), .int (Int32.ofNat deep), .int 2, .int (Int32.ofNat i9), .int u14, .int (-1), .retAddr 0] [] S14 post
        refine zv_c1 ht rfl rfl ?_
        have C26 : ∀ (pst25 : Outcome × zS → Prop), (pst25 (.returned (some (.int 0)), S14)) → zCall (d - 1) 125 [.ref 1592] S14 pst25 := by
          intro pst25 k29
          have ht27 : ztab 125 = ztb125 := rfl
          show zEv (d - 1) 125 0 [.ref 1592] [] S14 pst25
          refine zv_c1 ht27 rfl rfl ?_
          refine zv_e1 (x := Int32.ofNat kk14) ht27 rfl rfl x14.1 ?_
          refine zv_br ht27 rfl rfl rfl (fun b28 => ?_) (fun b28 => (show False from by have hq := b28; have hz : kk14 = 0 := (zi_eqE (a := kk14) (b := 0) rfl rfl (by omega) (by omega)).mp (Classical.not_not.mp hq); omega).elim)
          refine zv_c1 ht27 rfl rfl ?_
          exact zv_rc ht27 rfl rfl rfl rfl (by decide) k29
        refine zv_cl ht rfl rfl rfl rfl (by omega) (Nat.le_of_ble_eq_true rfl) (C26 _ ?_)
        show zEv d 151 271 [.ref 1592, .int 11, .int (Int32.ofNat p), .int (Int32.ofNat deep), .int 2, .int (Int32.ofNat i9), .int u14, .int (-1), .retAddr 0] [.int 0] S14 post
        refine zv_br ht rfl rfl rfl (fun h => absurd h (by decide)) (fun _ => ?_)
        refine zv_c1 ht rfl rfl ?_
        exact zv_rt ht rfl rfl rfl rfl (h3 S9 y9 i9 at9 rd9 nx9 hF9 e9 k9 t9 p9 g9 S11 hF11 e11 k11 p11 S14 u14 kk14 z14 hF14 e14 k14 x14 w14)
    · show zEv d 151 228 [.ref 1592, .int 11, .int (Int32.ofNat p), .int (Int32.ofNat deep), .int 2, .int (Int32.ofNat i9), .retAddr 0, .retAddr 0, .retAddr 0] [] S12 post
      refine zv_c1 ht rfl rfl (zv_c1 ht rfl rfl (zv_c1 ht rfl rfl ?_))
      refine zv_e1 (x := Int32.ofNat (deep + 1)) ht rfl rfl (zi_addE (a := deep) (b := 1) rfl rfl) ?_
      refine zv_cl ht rfl rfl rfl rfl (by omega) (Nat.le_of_ble_eq_true rfl) (m_fragX (S := S12) hF12 (by omega) x12 ?_)
      show zEv d 151 235 [.ref 1592, .int 11, .int (Int32.ofNat p), .int (Int32.ofNat deep), .int 2, .int (Int32.ofNat i9), .retAddr 0, .retAddr 0, .retAddr 0] [.int (-1)] S12 post
      refine zv_c2 (L' := [.ref 1592, .int 11, .int (Int32.ofNat p), .int (Int32.ofNat deep), .int 2, .int (Int32.ofNat i9), .int (-1), .retAddr 0, .retAddr 0]) ht rfl rfl ?_
      refine zv_c1 ht rfl rfl ?_
      refine zv_c2 (L' := [.ref 1592, .int 11, .int (Int32.ofNat p), .int (Int32.ofNat deep), .int 2, .int (Int32.ofNat i9), .int (-1), .int (-1), .retAddr 0]) ht rfl rfl ?_
      refine zv_c1 ht rfl rfl (zv_c1 ht rfl rfl ?_)
      refine zv_br ht rfl rfl rfl (fun _ => ?_) (fun h => absurd (by decide) h)
      refine zv_c1 ht rfl rfl (zv_c1 ht rfl rfl ?_)
      refine zv_cl ht rfl rfl rfl rfl (by omega) (Nat.le_of_ble_eq_true rfl) (m_wantX (S := S12) (w := 41) hF12 (by omega) x12 (by omega) ?_)
      show zEv d 151 267 [.ref 1592, .int 11, .int (Int32.ofNat p), .int (Int32.ofNat deep), .int 2, .int (Int32.ofNat i9), .int (-1), .int (-1), .retAddr 0] [] S12 post
      refine zv_c1 ht rfl rfl ?_
      have C31 : ∀ (pst30 : Outcome × zS → Prop), (pst30 (.returned (some (.int 0)), S12)) → zCall (d - 1) 125 [.ref 1592] S12 pst30 := by
        intro pst30 k33
        have ht32 : ztab 125 = ztb125 := rfl
        show zEv (d - 1) 125 0 [.ref 1592] [] S12 pst30
        refine zv_c1 ht32 rfl rfl ?_
        refine zv_e1 (x := 1) ht32 rfl rfl x12.1 ?_
        refine zv_br ht32 rfl rfl rfl (fun _ => ?_) (fun h => absurd (by decide) h)
        refine zv_c1 ht32 rfl rfl ?_
        exact zv_rc ht32 rfl rfl rfl rfl (by decide) k33
      refine zv_cl ht rfl rfl rfl rfl (by omega) (Nat.le_of_ble_eq_true rfl) (C31 _ ?_)
      show zEv d 151 271 [.ref 1592, .int 11, .int (Int32.ofNat p), .int (Int32.ofNat deep), .int 2, .int (Int32.ofNat i9), .int (-1), .int (-1), .retAddr 0] [.int 0] S12 post
      refine zv_br ht rfl rfl rfl (fun h => absurd h (by decide)) (fun _ => ?_)
      refine zv_c1 ht rfl rfl ?_
      exact zv_rt ht rfl rfl rfl rfl (h4 S9 y9 i9 at9 rd9 nx9 hF9 e9 k9 t9 p9 g9 S12 hF12 e12 k12 x12)
  · show zEv d 151 220 [.ref 1592, .int 11, .int (Int32.ofNat p), .int (Int32.ofNat deep), .int 2, .retAddr 0, .retAddr 0, .retAddr 0, .retAddr 0] [.int u10] S10 post
    refine zv_c2 (L' := [.ref 1592, .int 11, .int (Int32.ofNat p), .int (Int32.ofNat deep), .int 2, .int u10, .retAddr 0, .retAddr 0, .retAddr 0]) ht rfl rfl ?_
    refine zv_c1 ht rfl rfl (zv_c1 ht rfl rfl ?_)
    refine zv_cl ht rfl rfl rfl rfl (by omega) (Nat.le_of_ble_eq_true rfl) (m_wantX (S := S10) (w := 44) hF10 (by omega) x10 (by omega) ?_)
    show zEv d 151 228 [.ref 1592, .int 11, .int (Int32.ofNat p), .int (Int32.ofNat deep), .int 2, .int u10, .retAddr 0, .retAddr 0, .retAddr 0] [] S10 post
    refine zv_c1 ht rfl rfl (zv_c1 ht rfl rfl (zv_c1 ht rfl rfl ?_))
    refine zv_e1 (x := Int32.ofNat (deep + 1)) ht rfl rfl (zi_addE (a := deep) (b := 1) rfl rfl) ?_
    refine zv_cl ht rfl rfl rfl rfl (by omega) (Nat.le_of_ble_eq_true rfl) (m_fragX (S := S10) hF10 (by omega) x10 ?_)
    show zEv d 151 235 [.ref 1592, .int 11, .int (Int32.ofNat p), .int (Int32.ofNat deep), .int 2, .int u10, .retAddr 0, .retAddr 0, .retAddr 0] [.int (-1)] S10 post
    refine zv_c2 (L' := [.ref 1592, .int 11, .int (Int32.ofNat p), .int (Int32.ofNat deep), .int 2, .int u10, .int (-1), .retAddr 0, .retAddr 0]) ht rfl rfl ?_
    refine zv_c1 ht rfl rfl ?_
    refine zv_c2 (L' := [.ref 1592, .int 11, .int (Int32.ofNat p), .int (Int32.ofNat deep), .int 2, .int u10, .int (-1), .int (-1), .retAddr 0]) ht rfl rfl ?_
    refine zv_c1 ht rfl rfl (zv_c1 ht rfl rfl ?_)
    refine zv_br ht rfl rfl rfl (fun _ => ?_) (fun h => absurd (by decide) h)
    refine zv_c1 ht rfl rfl (zv_c1 ht rfl rfl ?_)
    refine zv_cl ht rfl rfl rfl rfl (by omega) (Nat.le_of_ble_eq_true rfl) (m_wantX (S := S10) (w := 41) hF10 (by omega) x10 (by omega) ?_)
    show zEv d 151 267 [.ref 1592, .int 11, .int (Int32.ofNat p), .int (Int32.ofNat deep), .int 2, .int u10, .int (-1), .int (-1), .retAddr 0] [] S10 post
    refine zv_c1 ht rfl rfl ?_
    have C35 : ∀ (pst34 : Outcome × zS → Prop), (pst34 (.returned (some (.int 0)), S10)) → zCall (d - 1) 125 [.ref 1592] S10 pst34 := by
      intro pst34 k38
      have ht36 : ztab 125 = ztb125 := rfl
      show zEv (d - 1) 125 0 [.ref 1592] [] S10 pst34
      refine zv_c1 ht36 rfl rfl ?_
      refine zv_e1 (x := Int32.ofNat kk10) ht36 rfl rfl x10.1 ?_
      refine zv_br ht36 rfl rfl rfl (fun b37 => ?_) (fun b37 => (show False from by have hq := b37; have hz : kk10 = 0 := (zi_eqE (a := kk10) (b := 0) rfl rfl (by omega) (by omega)).mp (Classical.not_not.mp hq); omega).elim)
      refine zv_c1 ht36 rfl rfl ?_
      exact zv_rc ht36 rfl rfl rfl rfl (by decide) k38
    refine zv_cl ht rfl rfl rfl rfl (by omega) (Nat.le_of_ble_eq_true rfl) (C35 _ ?_)
    show zEv d 151 271 [.ref 1592, .int 11, .int (Int32.ofNat p), .int (Int32.ofNat deep), .int 2, .int u10, .int (-1), .int (-1), .retAddr 0] [.int 0] S10 post
    refine zv_br ht rfl rfl rfl (fun h => absurd h (by decide)) (fun _ => ?_)
    refine zv_c1 ht rfl rfl ?_
    exact zv_rt ht rfl rfl rfl rfl (h5 S10 u10 kk10 z10 hF10 e10 k10 x10 w10)

theorem ib_12 {d : Nat} {S : zS} (hF : zFin true S) (hd : 3 ≤ d) {tp : Nat → Nat} {sz at0 rd nx wt B : Nat} {rec : Nat → Nat → Nat → pE (zNd × Nat × Nat)} (p deep : Nat)  (hP : mP tp sz S at0 rd nx wt) (hp : p ≤ 300) (hdp : deep < 2000) (hrd : rd ≤ 80) (hs0 : sz ≤ 300) (ha0 : at0 ≤ sz) (hB : nx + 2 * (sz - at0) + 3 ≤ B) (hB3 : B ≤ 3000) (hwt : wt + (sz - at0) ≤ 2000) (hR : mRd tp sz B (d - 1) (deep + 1) rec) {post : Outcome × zS → Prop} (h1 : ∀ S9 : zS, ∀ y9 : zNd, ∀ i9 : Nat, ∀ at9 : Nat, ∀ rd9 : Nat, ∀ nx9 : Nat, (zFin true S9) → (rec (deep + 1) at0 rd = .ok (y9, at9, rd9)) → (mFr B nx wt S S9) → (mT true S9 nx nx9 y9 i9) → (mP tp sz S9 at9 rd9 nx9 wt) → (at0 < at9 ∧ at9 ≤ sz ∧ nx9 ≤ nx + 2 * (at9 - at0) ∧ rd9 ≤ 80 ∧ nx < nx9 ∧ i9 < 3000) → ∀ S11 : zS, (zFin true S11) → (pWant tp sz 44 at9 = .ok (at9 + 1)) → (mFr B nx9 wt S9 S11) → (mP tp sz S11 (at9 + 1) rd9 nx9 wt) → ∀ S13 : zS, ∀ y13 : zNd, ∀ i13 : Nat, ∀ at13 : Nat, ∀ rd13 : Nat, ∀ nx13 : Nat, (zFin true S13) → (rec (deep + 1) (at9 + 1) rd9 = .ok (y13, at13, rd13)) → (mFr B nx9 wt S11 S13) → (mT true S13 nx9 nx13 y13 i13) → (mP tp sz S13 at13 rd13 nx13 wt) → ((at9 + 1) < at13 ∧ at13 ≤ sz ∧ nx13 ≤ nx9 + 2 * (at13 - (at9 + 1)) ∧ rd13 ≤ 80 ∧ nx9 < nx13 ∧ i13 < 3000) → ∀ S15 : zS, (zFin true S15) → (pWant tp sz 41 at13 = .ok (at13 + 1)) → (mFr B nx13 wt S13 S15) → (mP tp sz S15 (at13 + 1) rd13 nx13 wt) → zCall (d - 1) 133 [.ref 1592, .int 12, .int 0, .int (Int32.ofNat p)] S15 (zAf d 151 291 [.ref 1592, .int 12, .int (Int32.ofNat p), .int (Int32.ofNat deep), .int 2, .int (Int32.ofNat i9), .int (Int32.ofNat i13), .int (-1), .retAddr 0] [] post)) (h2 : ∀ S9 : zS, ∀ y9 : zNd, ∀ i9 : Nat, ∀ at9 : Nat, ∀ rd9 : Nat, ∀ nx9 : Nat, (zFin true S9) → (rec (deep + 1) at0 rd = .ok (y9, at9, rd9)) → (mFr B nx wt S S9) → (mT true S9 nx nx9 y9 i9) → (mP tp sz S9 at9 rd9 nx9 wt) → (at0 < at9 ∧ at9 ≤ sz ∧ nx9 ≤ nx + 2 * (at9 - at0) ∧ rd9 ≤ 80 ∧ nx < nx9 ∧ i9 < 3000) → ∀ S11 : zS, (zFin true S11) → (pWant tp sz 44 at9 = .ok (at9 + 1)) → (mFr B nx9 wt S9 S11) → (mP tp sz S11 (at9 + 1) rd9 nx9 wt) → ∀ S13 : zS, ∀ y13 : zNd, ∀ i13 : Nat, ∀ at13 : Nat, ∀ rd13 : Nat, ∀ nx13 : Nat, (zFin true S13) → (rec (deep + 1) (at9 + 1) rd9 = .ok (y13, at13, rd13)) → (mFr B nx9 wt S11 S13) → (mT true S13 nx9 nx13 y13 i13) → (mP tp sz S13 at13 rd13 nx13 wt) → ((at9 + 1) < at13 ∧ at13 ≤ sz ∧ nx13 ≤ nx9 + 2 * (at13 - (at9 + 1)) ∧ rd13 ≤ 80 ∧ nx9 < nx13 ∧ i13 < 3000) → ∀ S16 : zS, (zFin true S16) → (pWant tp sz 41 at13 = .error (1, at13)) → (mFr B nx13 wt S13 S16) → (mX S16 1 at13) → post (.returned (some (.int (-1))), S16)) (h3 : ∀ S9 : zS, ∀ y9 : zNd, ∀ i9 : Nat, ∀ at9 : Nat, ∀ rd9 : Nat, ∀ nx9 : Nat, (zFin true S9) → (rec (deep + 1) at0 rd = .ok (y9, at9, rd9)) → (mFr B nx wt S S9) → (mT true S9 nx nx9 y9 i9) → (mP tp sz S9 at9 rd9 nx9 wt) → (at0 < at9 ∧ at9 ≤ sz ∧ nx9 ≤ nx + 2 * (at9 - at0) ∧ rd9 ≤ 80 ∧ nx < nx9 ∧ i9 < 3000) → ∀ S11 : zS, (zFin true S11) → (pWant tp sz 44 at9 = .ok (at9 + 1)) → (mFr B nx9 wt S9 S11) → (mP tp sz S11 (at9 + 1) rd9 nx9 wt) → ∀ S14 : zS, ∀ u14 : Int32, ∀ kk14 : Nat, ∀ z14 : Nat, (zFin true S14) → (rec (deep + 1) (at9 + 1) rd9 = .error (kk14, z14)) → (mFr B nx9 wt S11 S14) → (mX S14 kk14 z14) → (0 < kk14 ∧ kk14 < 4) → post (.returned (some (.int (-1))), S14)) (h4 : ∀ S9 : zS, ∀ y9 : zNd, ∀ i9 : Nat, ∀ at9 : Nat, ∀ rd9 : Nat, ∀ nx9 : Nat, (zFin true S9) → (rec (deep + 1) at0 rd = .ok (y9, at9, rd9)) → (mFr B nx wt S S9) → (mT true S9 nx nx9 y9 i9) → (mP tp sz S9 at9 rd9 nx9 wt) → (at0 < at9 ∧ at9 ≤ sz ∧ nx9 ≤ nx + 2 * (at9 - at0) ∧ rd9 ≤ 80 ∧ nx < nx9 ∧ i9 < 3000) → ∀ S12 : zS, (zFin true S12) → (pWant tp sz 44 at9 = .error (1, at9)) → (mFr B nx9 wt S9 S12) → (mX S12 1 at9) → post (.returned (some (.int (-1))), S12)) (h5 : ∀ S10 : zS, ∀ u10 : Int32, ∀ kk10 : Nat, ∀ z10 : Nat, (zFin true S10) → (rec (deep + 1) at0 rd = .error (kk10, z10)) → (mFr B nx wt S S10) → (mX S10 kk10 z10) → (0 < kk10 ∧ kk10 < 4) → post (.returned (some (.int (-1))), S10)) : zCall d 151 [.ref 1592, .int 12, .int (Int32.ofNat p), .int (Int32.ofNat deep)] S post := by
  have ht : ztab 151 = ztb151 := rfl
  show zEv d 151 0 [.ref 1592, .int 12, .int (Int32.ofNat p), .int (Int32.ofNat deep), .retAddr 0, .retAddr 0, .retAddr 0, .retAddr 0, .retAddr 0] [] S post
  refine zv_c1 ht rfl rfl ?_
  have C2 : ∀ (pst1 : Outcome × zS → Prop), (pst1 (.returned (some (.int 1)), S)) → zCall (d - 1) 125 [.ref 1592] S pst1 := by
    intro pst1 k4
    have ht3 : ztab 125 = ztb125 := rfl
    show zEv (d - 1) 125 0 [.ref 1592] [] S pst1
    refine zv_c1 ht3 rfl rfl ?_
    refine zv_e1 (x := 0) ht3 rfl rfl hP.1.2.2.1 ?_
    refine zv_br ht3 rfl rfl rfl (fun h => absurd h (by decide)) (fun _ => ?_)
    refine zv_c1 ht3 rfl rfl (zv_c1 ht3 rfl rfl ?_)
    exact zv_rc ht3 rfl rfl rfl rfl (by decide) k4
  refine zv_cl ht rfl rfl rfl rfl (by omega) (Nat.le_of_ble_eq_true rfl) (C2 _ ?_)
  show zEv d 151 4 [.ref 1592, .int 12, .int (Int32.ofNat p), .int (Int32.ofNat deep), .retAddr 0, .retAddr 0, .retAddr 0, .retAddr 0, .retAddr 0] [.int 1] S post
  refine zv_br ht rfl rfl rfl (fun _ => ?_) (fun h => absurd (by decide) h)
  refine zv_c1 ht rfl rfl (zv_c1 ht rfl rfl ?_)
  refine zv_br ht rfl rfl rfl (fun h => absurd h (by decide)) (fun _ => ?_)
  refine zv_c1 ht rfl rfl (zv_c1 ht rfl rfl ?_)
  refine zv_br ht rfl rfl rfl (fun h => absurd h (by decide)) (fun _ => ?_)
  refine zv_c1 ht rfl rfl (zv_c1 ht rfl rfl ?_)
  refine zv_br ht rfl rfl rfl (fun h => absurd h (by decide)) (fun _ => ?_)
  refine zv_c1 ht rfl rfl (zv_c1 ht rfl rfl ?_)
  refine zv_br ht rfl rfl rfl (fun _ => ?_) (fun h => absurd (by decide) h)
  refine zv_c1 ht rfl rfl (zv_c1 ht rfl rfl ?_)
  refine zv_br ht rfl rfl rfl (fun h => absurd h (by decide)) (fun _ => ?_)
  refine zv_c1 ht rfl rfl (zv_c1 ht rfl rfl ?_)
  refine zv_br ht rfl rfl rfl (fun h => absurd h (by decide)) (fun _ => ?_)
  refine zv_c1 ht rfl rfl (zv_c1 ht rfl rfl (zv_c1 ht rfl rfl ?_))
  have C6 : ∀ (pst5 : Outcome × zS → Prop), (pst5 (.returned (some (.int 0)), S)) → zCall (d - 1) 102 [.int 12, .int 6, .int 9] S pst5 := by
    intro pst5 k8
    have ht7 : ztab 102 = ztb102 := rfl
    show zEv (d - 1) 102 0 [.int 12, .int 6, .int 9] [] S pst5
    refine zv_c1 ht7 rfl rfl (zv_c1 ht7 rfl rfl ?_)
    refine zv_br ht7 rfl rfl rfl (fun h => absurd h (by decide)) (fun _ => ?_)
    refine zv_c1 ht7 rfl rfl (zv_c1 ht7 rfl rfl ?_)
    refine zv_br ht7 rfl rfl rfl (fun _ => ?_) (fun h => absurd (by decide) h)
    refine zv_c1 ht7 rfl rfl ?_
    exact zv_rc ht7 rfl rfl rfl rfl (by decide) k8
  refine zv_cl ht rfl rfl rfl rfl (by omega) (Nat.le_of_ble_eq_true rfl) (C6 _ ?_)
  show zEv d 151 124 [.ref 1592, .int 12, .int (Int32.ofNat p), .int (Int32.ofNat deep), .retAddr 0, .retAddr 0, .retAddr 0, .retAddr 0, .retAddr 0] [.int 0] S post
  refine zv_br ht rfl rfl rfl (fun _ => ?_) (fun h => absurd (by decide) h)
  refine zv_c1 ht rfl rfl (zv_c1 ht rfl rfl ?_)
  refine zv_br ht rfl rfl rfl (fun h => absurd h (by decide)) (fun _ => ?_)
  refine zv_c1 ht rfl rfl (zv_c1 ht rfl rfl ?_)
  refine zv_br ht rfl rfl rfl (fun _ => ?_) (fun h => absurd (by decide) h)
  refine zv_c1 ht rfl rfl (zv_c1 ht rfl rfl ?_)
  refine zv_br ht rfl rfl rfl (fun _ => ?_) (fun h => absurd (by decide) h)
  refine zv_c1 ht rfl rfl ?_
  refine zv_c2 (L' := [.ref 1592, .int 12, .int (Int32.ofNat p), .int (Int32.ofNat deep), .int 2, .retAddr 0, .retAddr 0, .retAddr 0, .retAddr 0]) ht rfl rfl ?_
  refine zv_c1 ht rfl rfl (zv_c1 ht rfl rfl (zv_c1 ht rfl rfl ?_))
  refine zv_e1 (x := Int32.ofNat (deep + 1)) ht rfl rfl (zi_addE (a := deep) (b := 1) rfl rfl) ?_
  refine zv_cl ht rfl rfl rfl rfl (by omega) (Nat.le_of_ble_eq_true rfl) (hR (S := S) (nx := nx) (wt := wt) hF hP (by omega) (by omega) (by omega) (fun S9 y9 i9 at9 rd9 nx9 hF9 e9 k9 t9 p9 g9 => ?_) (fun S10 u10 kk10 z10 hF10 e10 k10 x10 w10 => ?_))
  · show zEv d 151 220 [.ref 1592, .int 12, .int (Int32.ofNat p), .int (Int32.ofNat deep), .int 2, .retAddr 0, .retAddr 0, .retAddr 0, .retAddr 0] [.int (Int32.ofNat i9)] S9 post
    refine zv_c2 (L' := [.ref 1592, .int 12, .int (Int32.ofNat p), .int (Int32.ofNat deep), .int 2, .int (Int32.ofNat i9), .retAddr 0, .retAddr 0, .retAddr 0]) ht rfl rfl ?_
    refine zv_c1 ht rfl rfl (zv_c1 ht rfl rfl ?_)
    refine zv_cl ht rfl rfl rfl rfl (by omega) (Nat.le_of_ble_eq_true rfl) (m_want (S := S9) (tp := tp) (sz := sz) (B := B) (w := 44) hF9 (by omega) p9 (by omega) (by omega) (fun S11 hF11 e11 k11 p11 => ?_) (fun S12 hF12 e12 k12 x12 => ?_))
    · show zEv d 151 228 [.ref 1592, .int 12, .int (Int32.ofNat p), .int (Int32.ofNat deep), .int 2, .int (Int32.ofNat i9), .retAddr 0, .retAddr 0, .retAddr 0] [] S11 post
      refine zv_c1 ht rfl rfl (zv_c1 ht rfl rfl (zv_c1 ht rfl rfl ?_))
      refine zv_e1 (x := Int32.ofNat (deep + 1)) ht rfl rfl (zi_addE (a := deep) (b := 1) rfl rfl) ?_
      refine zv_cl ht rfl rfl rfl rfl (by omega) (Nat.le_of_ble_eq_true rfl) (hR (S := S11) (nx := nx9) (wt := wt) hF11 p11 (by omega) (by omega) (by omega) (fun S13 y13 i13 at13 rd13 nx13 hF13 e13 k13 t13 p13 g13 => ?_) (fun S14 u14 kk14 z14 hF14 e14 k14 x14 w14 => ?_))
      · show zEv d 151 235 [.ref 1592, .int 12, .int (Int32.ofNat p), .int (Int32.ofNat deep), .int 2, .int (Int32.ofNat i9), .retAddr 0, .retAddr 0, .retAddr 0] [.int (Int32.ofNat i13)] S13 post
        refine zv_c2 (L' := [.ref 1592, .int 12, .int (Int32.ofNat p), .int (Int32.ofNat deep), .int 2, .int (Int32.ofNat i9), .int (Int32.ofNat i13), .retAddr 0, .retAddr 0]) ht rfl rfl ?_
        refine zv_c1 ht rfl rfl ?_
        refine zv_c2 (L' := [.ref 1592, .int 12, .int (Int32.ofNat p), .int (Int32.ofNat deep), .int 2, .int (Int32.ofNat i9), .int (Int32.ofNat i13), .int (-1), .retAddr 0]) ht rfl rfl ?_
        refine zv_c1 ht rfl rfl (zv_c1 ht rfl rfl ?_)
        refine zv_br ht rfl rfl rfl (fun _ => ?_) (fun h => absurd (by decide) h)
        refine zv_c1 ht rfl rfl (zv_c1 ht rfl rfl ?_)
        refine zv_cl ht rfl rfl rfl rfl (by omega) (Nat.le_of_ble_eq_true rfl) (m_want (S := S13) (tp := tp) (sz := sz) (B := B) (w := 41) hF13 (by omega) p13 (by omega) (by omega) (fun S15 hF15 e15 k15 p15 => ?_) (fun S16 hF16 e16 k16 x16 => ?_))
        · show zEv d 151 267 [.ref 1592, .int 12, .int (Int32.ofNat p), .int (Int32.ofNat deep), .int 2, .int (Int32.ofNat i9), .int (Int32.ofNat i13), .int (-1), .retAddr 0] [] S15 post
          refine zv_c1 ht rfl rfl ?_
          have C18 : ∀ (pst17 : Outcome × zS → Prop), (pst17 (.returned (some (.int 1)), S15)) → zCall (d - 1) 125 [.ref 1592] S15 pst17 := by
            intro pst17 k20
            have ht19 : ztab 125 = ztb125 := rfl
            show zEv (d - 1) 125 0 [.ref 1592] [] S15 pst17
            refine zv_c1 ht19 rfl rfl ?_
            refine zv_e1 (x := 0) ht19 rfl rfl p15.1.2.2.1 ?_
            refine zv_br ht19 rfl rfl rfl (fun h => absurd h (by decide)) (fun _ => ?_)
            refine zv_c1 ht19 rfl rfl (zv_c1 ht19 rfl rfl ?_)
            exact zv_rc ht19 rfl rfl rfl rfl (by decide) k20
          refine zv_cl ht rfl rfl rfl rfl (by omega) (Nat.le_of_ble_eq_true rfl) (C18 _ ?_)
          show zEv d 151 271 [.ref 1592, .int 12, .int (Int32.ofNat p), .int (Int32.ofNat deep), .int 2, .int (Int32.ofNat i9), .int (Int32.ofNat i13), .int (-1), .retAddr 0] [.int 1] S15 post
          refine zv_br ht rfl rfl rfl (fun _ => ?_) (fun h => absurd (by decide) h)
          refine zv_c1 ht rfl rfl (zv_c1 ht rfl rfl (zv_c1 ht rfl rfl ?_))
          refine zv_br ht rfl rfl rfl (fun _ => ?_) (fun h => absurd (by decide) h)
          refine zv_c1 ht rfl rfl (zv_c1 ht rfl rfl (zv_c1 ht rfl rfl ?_))
          refine zv_cl ht rfl rfl rfl rfl (by omega) (Nat.le_of_ble_eq_true rfl) (h1 S9 y9 i9 at9 rd9 nx9 hF9 e9 k9 t9 p9 g9 S11 hF11 e11 k11 p11 S13 y13 i13 at13 rd13 nx13 hF13 e13 k13 t13 p13 g13 S15 hF15 e15 k15 p15)
        · show zEv d 151 267 [.ref 1592, .int 12, .int (Int32.ofNat p), .int (Int32.ofNat deep), .int 2, .int (Int32.ofNat i9), .int (Int32.ofNat i13), .int (-1), .retAddr 0] [] S16 post
          refine zv_c1 ht rfl rfl ?_
          have C22 : ∀ (pst21 : Outcome × zS → Prop), (pst21 (.returned (some (.int 0)), S16)) → zCall (d - 1) 125 [.ref 1592] S16 pst21 := by
            intro pst21 k24
            have ht23 : ztab 125 = ztb125 := rfl
            show zEv (d - 1) 125 0 [.ref 1592] [] S16 pst21
            refine zv_c1 ht23 rfl rfl ?_
            refine zv_e1 (x := 1) ht23 rfl rfl x16.1 ?_
            refine zv_br ht23 rfl rfl rfl (fun _ => ?_) (fun h => absurd (by decide) h)
            refine zv_c1 ht23 rfl rfl ?_
            exact zv_rc ht23 rfl rfl rfl rfl (by decide) k24
          refine zv_cl ht rfl rfl rfl rfl (by omega) (Nat.le_of_ble_eq_true rfl) (C22 _ ?_)
          show zEv d 151 271 [.ref 1592, .int 12, .int (Int32.ofNat p), .int (Int32.ofNat deep), .int 2, .int (Int32.ofNat i9), .int (Int32.ofNat i13), .int (-1), .retAddr 0] [.int 0] S16 post
          refine zv_br ht rfl rfl rfl (fun h => absurd h (by decide)) (fun _ => ?_)
          refine zv_c1 ht rfl rfl ?_
          exact zv_rt ht rfl rfl rfl rfl (h2 S9 y9 i9 at9 rd9 nx9 hF9 e9 k9 t9 p9 g9 S11 hF11 e11 k11 p11 S13 y13 i13 at13 rd13 nx13 hF13 e13 k13 t13 p13 g13 S16 hF16 e16 k16 x16)
      · show zEv d 151 235 [.ref 1592, .int 12, .int (Int32.ofNat p), .int (Int32.ofNat deep), .int 2, .int (Int32.ofNat i9), .retAddr 0, .retAddr 0, .retAddr 0] [.int u14] S14 post
        refine zv_c2 (L' := [.ref 1592, .int 12, .int (Int32.ofNat p), .int (Int32.ofNat deep), .int 2, .int (Int32.ofNat i9), .int u14, .retAddr 0, .retAddr 0]) ht rfl rfl ?_
        refine zv_c1 ht rfl rfl ?_
        refine zv_c2 (L' := [.ref 1592, .int 12, .int (Int32.ofNat p), .int (Int32.ofNat deep), .int 2, .int (Int32.ofNat i9), .int u14, .int (-1), .retAddr 0]) ht rfl rfl ?_
        refine zv_c1 ht rfl rfl (zv_c1 ht rfl rfl ?_)
        refine zv_br ht rfl rfl rfl (fun _ => ?_) (fun h => absurd (by decide) h)
        refine zv_c1 ht rfl rfl (zv_c1 ht rfl rfl ?_)
        refine zv_cl ht rfl rfl rfl rfl (by omega) (Nat.le_of_ble_eq_true rfl) (m_wantX (S := S14) (w := 41) hF14 (by omega) x14 (by omega) ?_)
        show zEv d 151 267 [.ref 1592, .int 12, .int (Int32.ofNat p), .int (Int32.ofNat deep), .int 2, .int (Int32.ofNat i9), .int u14, .int (-1), .retAddr 0] [] S14 post
        refine zv_c1 ht rfl rfl ?_
        have C26 : ∀ (pst25 : Outcome × zS → Prop), (pst25 (.returned (some (.int 0)), S14)) → zCall (d - 1) 125 [.ref 1592] S14 pst25 := by
          intro pst25 k29
          have ht27 : ztab 125 = ztb125 := rfl
          show zEv (d - 1) 125 0 [.ref 1592] [] S14 pst25
          refine zv_c1 ht27 rfl rfl ?_
          refine zv_e1 (x := Int32.ofNat kk14) ht27 rfl rfl x14.1 ?_
          refine zv_br ht27 rfl rfl rfl (fun b28 => ?_) (fun b28 => (show False from by have hq := b28; have hz : kk14 = 0 := (zi_eqE (a := kk14) (b := 0) rfl rfl (by omega) (by omega)).mp (Classical.not_not.mp hq); omega).elim)
          refine zv_c1 ht27 rfl rfl ?_
          exact zv_rc ht27 rfl rfl rfl rfl (by decide) k29
        refine zv_cl ht rfl rfl rfl rfl (by omega) (Nat.le_of_ble_eq_true rfl) (C26 _ ?_)
        show zEv d 151 271 [.ref 1592, .int 12, .int (Int32.ofNat p), .int (Int32.ofNat deep), .int 2, .int (Int32.ofNat i9), .int u14, .int (-1), .retAddr 0] [.int 0] S14 post
        refine zv_br ht rfl rfl rfl (fun h => absurd h (by decide)) (fun _ => ?_)
        refine zv_c1 ht rfl rfl ?_
        exact zv_rt ht rfl rfl rfl rfl (h3 S9 y9 i9 at9 rd9 nx9 hF9 e9 k9 t9 p9 g9 S11 hF11 e11 k11 p11 S14 u14 kk14 z14 hF14 e14 k14 x14 w14)
    · show zEv d 151 228 [.ref 1592, .int 12, .int (Int32.ofNat p), .int (Int32.ofNat deep), .int 2, .int (Int32.ofNat i9), .retAddr 0, .retAddr 0, .retAddr 0] [] S12 post
      refine zv_c1 ht rfl rfl (zv_c1 ht rfl rfl (zv_c1 ht rfl rfl ?_))
      refine zv_e1 (x := Int32.ofNat (deep + 1)) ht rfl rfl (zi_addE (a := deep) (b := 1) rfl rfl) ?_
      refine zv_cl ht rfl rfl rfl rfl (by omega) (Nat.le_of_ble_eq_true rfl) (m_fragX (S := S12) hF12 (by omega) x12 ?_)
      show zEv d 151 235 [.ref 1592, .int 12, .int (Int32.ofNat p), .int (Int32.ofNat deep), .int 2, .int (Int32.ofNat i9), .retAddr 0, .retAddr 0, .retAddr 0] [.int (-1)] S12 post
      refine zv_c2 (L' := [.ref 1592, .int 12, .int (Int32.ofNat p), .int (Int32.ofNat deep), .int 2, .int (Int32.ofNat i9), .int (-1), .retAddr 0, .retAddr 0]) ht rfl rfl ?_
      refine zv_c1 ht rfl rfl ?_
      refine zv_c2 (L' := [.ref 1592, .int 12, .int (Int32.ofNat p), .int (Int32.ofNat deep), .int 2, .int (Int32.ofNat i9), .int (-1), .int (-1), .retAddr 0]) ht rfl rfl ?_
      refine zv_c1 ht rfl rfl (zv_c1 ht rfl rfl ?_)
      refine zv_br ht rfl rfl rfl (fun _ => ?_) (fun h => absurd (by decide) h)
      refine zv_c1 ht rfl rfl (zv_c1 ht rfl rfl ?_)
      refine zv_cl ht rfl rfl rfl rfl (by omega) (Nat.le_of_ble_eq_true rfl) (m_wantX (S := S12) (w := 41) hF12 (by omega) x12 (by omega) ?_)
      show zEv d 151 267 [.ref 1592, .int 12, .int (Int32.ofNat p), .int (Int32.ofNat deep), .int 2, .int (Int32.ofNat i9), .int (-1), .int (-1), .retAddr 0] [] S12 post
      refine zv_c1 ht rfl rfl ?_
      have C31 : ∀ (pst30 : Outcome × zS → Prop), (pst30 (.returned (some (.int 0)), S12)) → zCall (d - 1) 125 [.ref 1592] S12 pst30 := by
        intro pst30 k33
        have ht32 : ztab 125 = ztb125 := rfl
        show zEv (d - 1) 125 0 [.ref 1592] [] S12 pst30
        refine zv_c1 ht32 rfl rfl ?_
        refine zv_e1 (x := 1) ht32 rfl rfl x12.1 ?_
        refine zv_br ht32 rfl rfl rfl (fun _ => ?_) (fun h => absurd (by decide) h)
        refine zv_c1 ht32 rfl rfl ?_
        exact zv_rc ht32 rfl rfl rfl rfl (by decide) k33
      refine zv_cl ht rfl rfl rfl rfl (by omega) (Nat.le_of_ble_eq_true rfl) (C31 _ ?_)
      show zEv d 151 271 [.ref 1592, .int 12, .int (Int32.ofNat p), .int (Int32.ofNat deep), .int 2, .int (Int32.ofNat i9), .int (-1), .int (-1), .retAddr 0] [.int 0] S12 post
      refine zv_br ht rfl rfl rfl (fun h => absurd h (by decide)) (fun _ => ?_)
      refine zv_c1 ht rfl rfl ?_
      exact zv_rt ht rfl rfl rfl rfl (h4 S9 y9 i9 at9 rd9 nx9 hF9 e9 k9 t9 p9 g9 S12 hF12 e12 k12 x12)
  · show zEv d 151 220 [.ref 1592, .int 12, .int (Int32.ofNat p), .int (Int32.ofNat deep), .int 2, .retAddr 0, .retAddr 0, .retAddr 0, .retAddr 0] [.int u10] S10 post
    refine zv_c2 (L' := [.ref 1592, .int 12, .int (Int32.ofNat p), .int (Int32.ofNat deep), .int 2, .int u10, .retAddr 0, .retAddr 0, .retAddr 0]) ht rfl rfl ?_
    refine zv_c1 ht rfl rfl (zv_c1 ht rfl rfl ?_)
    refine zv_cl ht rfl rfl rfl rfl (by omega) (Nat.le_of_ble_eq_true rfl) (m_wantX (S := S10) (w := 44) hF10 (by omega) x10 (by omega) ?_)
    show zEv d 151 228 [.ref 1592, .int 12, .int (Int32.ofNat p), .int (Int32.ofNat deep), .int 2, .int u10, .retAddr 0, .retAddr 0, .retAddr 0] [] S10 post
    refine zv_c1 ht rfl rfl (zv_c1 ht rfl rfl (zv_c1 ht rfl rfl ?_))
    refine zv_e1 (x := Int32.ofNat (deep + 1)) ht rfl rfl (zi_addE (a := deep) (b := 1) rfl rfl) ?_
    refine zv_cl ht rfl rfl rfl rfl (by omega) (Nat.le_of_ble_eq_true rfl) (m_fragX (S := S10) hF10 (by omega) x10 ?_)
    show zEv d 151 235 [.ref 1592, .int 12, .int (Int32.ofNat p), .int (Int32.ofNat deep), .int 2, .int u10, .retAddr 0, .retAddr 0, .retAddr 0] [.int (-1)] S10 post
    refine zv_c2 (L' := [.ref 1592, .int 12, .int (Int32.ofNat p), .int (Int32.ofNat deep), .int 2, .int u10, .int (-1), .retAddr 0, .retAddr 0]) ht rfl rfl ?_
    refine zv_c1 ht rfl rfl ?_
    refine zv_c2 (L' := [.ref 1592, .int 12, .int (Int32.ofNat p), .int (Int32.ofNat deep), .int 2, .int u10, .int (-1), .int (-1), .retAddr 0]) ht rfl rfl ?_
    refine zv_c1 ht rfl rfl (zv_c1 ht rfl rfl ?_)
    refine zv_br ht rfl rfl rfl (fun _ => ?_) (fun h => absurd (by decide) h)
    refine zv_c1 ht rfl rfl (zv_c1 ht rfl rfl ?_)
    refine zv_cl ht rfl rfl rfl rfl (by omega) (Nat.le_of_ble_eq_true rfl) (m_wantX (S := S10) (w := 41) hF10 (by omega) x10 (by omega) ?_)
    show zEv d 151 267 [.ref 1592, .int 12, .int (Int32.ofNat p), .int (Int32.ofNat deep), .int 2, .int u10, .int (-1), .int (-1), .retAddr 0] [] S10 post
    refine zv_c1 ht rfl rfl ?_
    have C35 : ∀ (pst34 : Outcome × zS → Prop), (pst34 (.returned (some (.int 0)), S10)) → zCall (d - 1) 125 [.ref 1592] S10 pst34 := by
      intro pst34 k38
      have ht36 : ztab 125 = ztb125 := rfl
      show zEv (d - 1) 125 0 [.ref 1592] [] S10 pst34
      refine zv_c1 ht36 rfl rfl ?_
      refine zv_e1 (x := Int32.ofNat kk10) ht36 rfl rfl x10.1 ?_
      refine zv_br ht36 rfl rfl rfl (fun b37 => ?_) (fun b37 => (show False from by have hq := b37; have hz : kk10 = 0 := (zi_eqE (a := kk10) (b := 0) rfl rfl (by omega) (by omega)).mp (Classical.not_not.mp hq); omega).elim)
      refine zv_c1 ht36 rfl rfl ?_
      exact zv_rc ht36 rfl rfl rfl rfl (by decide) k38
    refine zv_cl ht rfl rfl rfl rfl (by omega) (Nat.le_of_ble_eq_true rfl) (C35 _ ?_)
    show zEv d 151 271 [.ref 1592, .int 12, .int (Int32.ofNat p), .int (Int32.ofNat deep), .int 2, .int u10, .int (-1), .int (-1), .retAddr 0] [.int 0] S10 post
    refine zv_br ht rfl rfl rfl (fun h => absurd h (by decide)) (fun _ => ?_)
    refine zv_c1 ht rfl rfl ?_
    exact zv_rt ht rfl rfl rfl rfl (h5 S10 u10 kk10 z10 hF10 e10 k10 x10 w10)

theorem ib_13 {d : Nat} {S : zS} (hF : zFin true S) (hd : 3 ≤ d) {tp : Nat → Nat} {sz at0 rd nx wt B : Nat} {rec : Nat → Nat → Nat → pE (zNd × Nat × Nat)} (p deep : Nat)  (hP : mP tp sz S at0 rd nx wt) (hp : p ≤ 300) (hdp : deep < 2000) (hrd : rd ≤ 80) (hs0 : sz ≤ 300) (ha0 : at0 ≤ sz) (hB : nx + 2 * (sz - at0) + 3 ≤ B) (hB3 : B ≤ 3000) (hwt : wt + (sz - at0) ≤ 2000) (hR : mRd tp sz B (d - 1) (deep + 1) rec) {post : Outcome × zS → Prop} (h1 : ∀ S9 : zS, ∀ y9 : zNd, ∀ i9 : Nat, ∀ at9 : Nat, ∀ rd9 : Nat, ∀ nx9 : Nat, (zFin true S9) → (rec (deep + 1) at0 rd = .ok (y9, at9, rd9)) → (mFr B nx wt S S9) → (mT true S9 nx nx9 y9 i9) → (mP tp sz S9 at9 rd9 nx9 wt) → (at0 < at9 ∧ at9 ≤ sz ∧ nx9 ≤ nx + 2 * (at9 - at0) ∧ rd9 ≤ 80 ∧ nx < nx9 ∧ i9 < 3000) → ∀ S11 : zS, (zFin true S11) → (pWant tp sz 44 at9 = .ok (at9 + 1)) → (mFr B nx9 wt S9 S11) → (mP tp sz S11 (at9 + 1) rd9 nx9 wt) → ∀ S13 : zS, ∀ y13 : zNd, ∀ i13 : Nat, ∀ at13 : Nat, ∀ rd13 : Nat, ∀ nx13 : Nat, (zFin true S13) → (rec (deep + 1) (at9 + 1) rd9 = .ok (y13, at13, rd13)) → (mFr B nx9 wt S11 S13) → (mT true S13 nx9 nx13 y13 i13) → (mP tp sz S13 at13 rd13 nx13 wt) → ((at9 + 1) < at13 ∧ at13 ≤ sz ∧ nx13 ≤ nx9 + 2 * (at13 - (at9 + 1)) ∧ rd13 ≤ 80 ∧ nx9 < nx13 ∧ i13 < 3000) → ∀ S15 : zS, (zFin true S15) → (pWant tp sz 41 at13 = .ok (at13 + 1)) → (mFr B nx13 wt S13 S15) → (mP tp sz S15 (at13 + 1) rd13 nx13 wt) → zCall (d - 1) 133 [.ref 1592, .int 13, .int 0, .int (Int32.ofNat p)] S15 (zAf d 151 291 [.ref 1592, .int 13, .int (Int32.ofNat p), .int (Int32.ofNat deep), .int 2, .int (Int32.ofNat i9), .int (Int32.ofNat i13), .int (-1), .retAddr 0] [] post)) (h2 : ∀ S9 : zS, ∀ y9 : zNd, ∀ i9 : Nat, ∀ at9 : Nat, ∀ rd9 : Nat, ∀ nx9 : Nat, (zFin true S9) → (rec (deep + 1) at0 rd = .ok (y9, at9, rd9)) → (mFr B nx wt S S9) → (mT true S9 nx nx9 y9 i9) → (mP tp sz S9 at9 rd9 nx9 wt) → (at0 < at9 ∧ at9 ≤ sz ∧ nx9 ≤ nx + 2 * (at9 - at0) ∧ rd9 ≤ 80 ∧ nx < nx9 ∧ i9 < 3000) → ∀ S11 : zS, (zFin true S11) → (pWant tp sz 44 at9 = .ok (at9 + 1)) → (mFr B nx9 wt S9 S11) → (mP tp sz S11 (at9 + 1) rd9 nx9 wt) → ∀ S13 : zS, ∀ y13 : zNd, ∀ i13 : Nat, ∀ at13 : Nat, ∀ rd13 : Nat, ∀ nx13 : Nat, (zFin true S13) → (rec (deep + 1) (at9 + 1) rd9 = .ok (y13, at13, rd13)) → (mFr B nx9 wt S11 S13) → (mT true S13 nx9 nx13 y13 i13) → (mP tp sz S13 at13 rd13 nx13 wt) → ((at9 + 1) < at13 ∧ at13 ≤ sz ∧ nx13 ≤ nx9 + 2 * (at13 - (at9 + 1)) ∧ rd13 ≤ 80 ∧ nx9 < nx13 ∧ i13 < 3000) → ∀ S16 : zS, (zFin true S16) → (pWant tp sz 41 at13 = .error (1, at13)) → (mFr B nx13 wt S13 S16) → (mX S16 1 at13) → post (.returned (some (.int (-1))), S16)) (h3 : ∀ S9 : zS, ∀ y9 : zNd, ∀ i9 : Nat, ∀ at9 : Nat, ∀ rd9 : Nat, ∀ nx9 : Nat, (zFin true S9) → (rec (deep + 1) at0 rd = .ok (y9, at9, rd9)) → (mFr B nx wt S S9) → (mT true S9 nx nx9 y9 i9) → (mP tp sz S9 at9 rd9 nx9 wt) → (at0 < at9 ∧ at9 ≤ sz ∧ nx9 ≤ nx + 2 * (at9 - at0) ∧ rd9 ≤ 80 ∧ nx < nx9 ∧ i9 < 3000) → ∀ S11 : zS, (zFin true S11) → (pWant tp sz 44 at9 = .ok (at9 + 1)) → (mFr B nx9 wt S9 S11) → (mP tp sz S11 (at9 + 1) rd9 nx9 wt) → ∀ S14 : zS, ∀ u14 : Int32, ∀ kk14 : Nat, ∀ z14 : Nat, (zFin true S14) → (rec (deep + 1) (at9 + 1) rd9 = .error (kk14, z14)) → (mFr B nx9 wt S11 S14) → (mX S14 kk14 z14) → (0 < kk14 ∧ kk14 < 4) → post (.returned (some (.int (-1))), S14)) (h4 : ∀ S9 : zS, ∀ y9 : zNd, ∀ i9 : Nat, ∀ at9 : Nat, ∀ rd9 : Nat, ∀ nx9 : Nat, (zFin true S9) → (rec (deep + 1) at0 rd = .ok (y9, at9, rd9)) → (mFr B nx wt S S9) → (mT true S9 nx nx9 y9 i9) → (mP tp sz S9 at9 rd9 nx9 wt) → (at0 < at9 ∧ at9 ≤ sz ∧ nx9 ≤ nx + 2 * (at9 - at0) ∧ rd9 ≤ 80 ∧ nx < nx9 ∧ i9 < 3000) → ∀ S12 : zS, (zFin true S12) → (pWant tp sz 44 at9 = .error (1, at9)) → (mFr B nx9 wt S9 S12) → (mX S12 1 at9) → post (.returned (some (.int (-1))), S12)) (h5 : ∀ S10 : zS, ∀ u10 : Int32, ∀ kk10 : Nat, ∀ z10 : Nat, (zFin true S10) → (rec (deep + 1) at0 rd = .error (kk10, z10)) → (mFr B nx wt S S10) → (mX S10 kk10 z10) → (0 < kk10 ∧ kk10 < 4) → post (.returned (some (.int (-1))), S10)) : zCall d 151 [.ref 1592, .int 13, .int (Int32.ofNat p), .int (Int32.ofNat deep)] S post := by
  have ht : ztab 151 = ztb151 := rfl
  show zEv d 151 0 [.ref 1592, .int 13, .int (Int32.ofNat p), .int (Int32.ofNat deep), .retAddr 0, .retAddr 0, .retAddr 0, .retAddr 0, .retAddr 0] [] S post
  refine zv_c1 ht rfl rfl ?_
  have C2 : ∀ (pst1 : Outcome × zS → Prop), (pst1 (.returned (some (.int 1)), S)) → zCall (d - 1) 125 [.ref 1592] S pst1 := by
    intro pst1 k4
    have ht3 : ztab 125 = ztb125 := rfl
    show zEv (d - 1) 125 0 [.ref 1592] [] S pst1
    refine zv_c1 ht3 rfl rfl ?_
    refine zv_e1 (x := 0) ht3 rfl rfl hP.1.2.2.1 ?_
    refine zv_br ht3 rfl rfl rfl (fun h => absurd h (by decide)) (fun _ => ?_)
    refine zv_c1 ht3 rfl rfl (zv_c1 ht3 rfl rfl ?_)
    exact zv_rc ht3 rfl rfl rfl rfl (by decide) k4
  refine zv_cl ht rfl rfl rfl rfl (by omega) (Nat.le_of_ble_eq_true rfl) (C2 _ ?_)
  show zEv d 151 4 [.ref 1592, .int 13, .int (Int32.ofNat p), .int (Int32.ofNat deep), .retAddr 0, .retAddr 0, .retAddr 0, .retAddr 0, .retAddr 0] [.int 1] S post
  refine zv_br ht rfl rfl rfl (fun _ => ?_) (fun h => absurd (by decide) h)
  refine zv_c1 ht rfl rfl (zv_c1 ht rfl rfl ?_)
  refine zv_br ht rfl rfl rfl (fun h => absurd h (by decide)) (fun _ => ?_)
  refine zv_c1 ht rfl rfl (zv_c1 ht rfl rfl ?_)
  refine zv_br ht rfl rfl rfl (fun h => absurd h (by decide)) (fun _ => ?_)
  refine zv_c1 ht rfl rfl (zv_c1 ht rfl rfl ?_)
  refine zv_br ht rfl rfl rfl (fun h => absurd h (by decide)) (fun _ => ?_)
  refine zv_c1 ht rfl rfl (zv_c1 ht rfl rfl ?_)
  refine zv_br ht rfl rfl rfl (fun _ => ?_) (fun h => absurd (by decide) h)
  refine zv_c1 ht rfl rfl (zv_c1 ht rfl rfl ?_)
  refine zv_br ht rfl rfl rfl (fun h => absurd h (by decide)) (fun _ => ?_)
  refine zv_c1 ht rfl rfl (zv_c1 ht rfl rfl ?_)
  refine zv_br ht rfl rfl rfl (fun h => absurd h (by decide)) (fun _ => ?_)
  refine zv_c1 ht rfl rfl (zv_c1 ht rfl rfl (zv_c1 ht rfl rfl ?_))
  have C6 : ∀ (pst5 : Outcome × zS → Prop), (pst5 (.returned (some (.int 0)), S)) → zCall (d - 1) 102 [.int 13, .int 6, .int 9] S pst5 := by
    intro pst5 k8
    have ht7 : ztab 102 = ztb102 := rfl
    show zEv (d - 1) 102 0 [.int 13, .int 6, .int 9] [] S pst5
    refine zv_c1 ht7 rfl rfl (zv_c1 ht7 rfl rfl ?_)
    refine zv_br ht7 rfl rfl rfl (fun h => absurd h (by decide)) (fun _ => ?_)
    refine zv_c1 ht7 rfl rfl (zv_c1 ht7 rfl rfl ?_)
    refine zv_br ht7 rfl rfl rfl (fun _ => ?_) (fun h => absurd (by decide) h)
    refine zv_c1 ht7 rfl rfl ?_
    exact zv_rc ht7 rfl rfl rfl rfl (by decide) k8
  refine zv_cl ht rfl rfl rfl rfl (by omega) (Nat.le_of_ble_eq_true rfl) (C6 _ ?_)
  show zEv d 151 124 [.ref 1592, .int 13, .int (Int32.ofNat p), .int (Int32.ofNat deep), .retAddr 0, .retAddr 0, .retAddr 0, .retAddr 0, .retAddr 0] [.int 0] S post
  refine zv_br ht rfl rfl rfl (fun _ => ?_) (fun h => absurd (by decide) h)
  refine zv_c1 ht rfl rfl (zv_c1 ht rfl rfl ?_)
  refine zv_br ht rfl rfl rfl (fun h => absurd h (by decide)) (fun _ => ?_)
  refine zv_c1 ht rfl rfl (zv_c1 ht rfl rfl ?_)
  refine zv_br ht rfl rfl rfl (fun _ => ?_) (fun h => absurd (by decide) h)
  refine zv_c1 ht rfl rfl (zv_c1 ht rfl rfl ?_)
  refine zv_br ht rfl rfl rfl (fun _ => ?_) (fun h => absurd (by decide) h)
  refine zv_c1 ht rfl rfl ?_
  refine zv_c2 (L' := [.ref 1592, .int 13, .int (Int32.ofNat p), .int (Int32.ofNat deep), .int 2, .retAddr 0, .retAddr 0, .retAddr 0, .retAddr 0]) ht rfl rfl ?_
  refine zv_c1 ht rfl rfl (zv_c1 ht rfl rfl (zv_c1 ht rfl rfl ?_))
  refine zv_e1 (x := Int32.ofNat (deep + 1)) ht rfl rfl (zi_addE (a := deep) (b := 1) rfl rfl) ?_
  refine zv_cl ht rfl rfl rfl rfl (by omega) (Nat.le_of_ble_eq_true rfl) (hR (S := S) (nx := nx) (wt := wt) hF hP (by omega) (by omega) (by omega) (fun S9 y9 i9 at9 rd9 nx9 hF9 e9 k9 t9 p9 g9 => ?_) (fun S10 u10 kk10 z10 hF10 e10 k10 x10 w10 => ?_))
  · show zEv d 151 220 [.ref 1592, .int 13, .int (Int32.ofNat p), .int (Int32.ofNat deep), .int 2, .retAddr 0, .retAddr 0, .retAddr 0, .retAddr 0] [.int (Int32.ofNat i9)] S9 post
    refine zv_c2 (L' := [.ref 1592, .int 13, .int (Int32.ofNat p), .int (Int32.ofNat deep), .int 2, .int (Int32.ofNat i9), .retAddr 0, .retAddr 0, .retAddr 0]) ht rfl rfl ?_
    refine zv_c1 ht rfl rfl (zv_c1 ht rfl rfl ?_)
    refine zv_cl ht rfl rfl rfl rfl (by omega) (Nat.le_of_ble_eq_true rfl) (m_want (S := S9) (tp := tp) (sz := sz) (B := B) (w := 44) hF9 (by omega) p9 (by omega) (by omega) (fun S11 hF11 e11 k11 p11 => ?_) (fun S12 hF12 e12 k12 x12 => ?_))
    · show zEv d 151 228 [.ref 1592, .int 13, .int (Int32.ofNat p), .int (Int32.ofNat deep), .int 2, .int (Int32.ofNat i9), .retAddr 0, .retAddr 0, .retAddr 0] [] S11 post
      refine zv_c1 ht rfl rfl (zv_c1 ht rfl rfl (zv_c1 ht rfl rfl ?_))
      refine zv_e1 (x := Int32.ofNat (deep + 1)) ht rfl rfl (zi_addE (a := deep) (b := 1) rfl rfl) ?_
      refine zv_cl ht rfl rfl rfl rfl (by omega) (Nat.le_of_ble_eq_true rfl) (hR (S := S11) (nx := nx9) (wt := wt) hF11 p11 (by omega) (by omega) (by omega) (fun S13 y13 i13 at13 rd13 nx13 hF13 e13 k13 t13 p13 g13 => ?_) (fun S14 u14 kk14 z14 hF14 e14 k14 x14 w14 => ?_))
      · show zEv d 151 235 [.ref 1592, .int 13, .int (Int32.ofNat p), .int (Int32.ofNat deep), .int 2, .int (Int32.ofNat i9), .retAddr 0, .retAddr 0, .retAddr 0] [.int (Int32.ofNat i13)] S13 post
        refine zv_c2 (L' := [.ref 1592, .int 13, .int (Int32.ofNat p), .int (Int32.ofNat deep), .int 2, .int (Int32.ofNat i9), .int (Int32.ofNat i13), .retAddr 0, .retAddr 0]) ht rfl rfl ?_
        refine zv_c1 ht rfl rfl ?_
        refine zv_c2 (L' := [.ref 1592, .int 13, .int (Int32.ofNat p), .int (Int32.ofNat deep), .int 2, .int (Int32.ofNat i9), .int (Int32.ofNat i13), .int (-1), .retAddr 0]) ht rfl rfl ?_
        refine zv_c1 ht rfl rfl (zv_c1 ht rfl rfl ?_)
        refine zv_br ht rfl rfl rfl (fun _ => ?_) (fun h => absurd (by decide) h)
        refine zv_c1 ht rfl rfl (zv_c1 ht rfl rfl ?_)
        refine zv_cl ht rfl rfl rfl rfl (by omega) (Nat.le_of_ble_eq_true rfl) (m_want (S := S13) (tp := tp) (sz := sz) (B := B) (w := 41) hF13 (by omega) p13 (by omega) (by omega) (fun S15 hF15 e15 k15 p15 => ?_) (fun S16 hF16 e16 k16 x16 => ?_))
        · show zEv d 151 267 [.ref 1592, .int 13, .int (Int32.ofNat p), .int (Int32.ofNat deep), .int 2, .int (Int32.ofNat i9), .int (Int32.ofNat i13), .int (-1), .retAddr 0] [] S15 post
          refine zv_c1 ht rfl rfl ?_
          have C18 : ∀ (pst17 : Outcome × zS → Prop), (pst17 (.returned (some (.int 1)), S15)) → zCall (d - 1) 125 [.ref 1592] S15 pst17 := by
            intro pst17 k20
            have ht19 : ztab 125 = ztb125 := rfl
            show zEv (d - 1) 125 0 [.ref 1592] [] S15 pst17
            refine zv_c1 ht19 rfl rfl ?_
            refine zv_e1 (x := 0) ht19 rfl rfl p15.1.2.2.1 ?_
            refine zv_br ht19 rfl rfl rfl (fun h => absurd h (by decide)) (fun _ => ?_)
            refine zv_c1 ht19 rfl rfl (zv_c1 ht19 rfl rfl ?_)
            exact zv_rc ht19 rfl rfl rfl rfl (by decide) k20
          refine zv_cl ht rfl rfl rfl rfl (by omega) (Nat.le_of_ble_eq_true rfl) (C18 _ ?_)
          show zEv d 151 271 [.ref 1592, .int 13, .int (Int32.ofNat p), .int (Int32.ofNat deep), .int 2, .int (Int32.ofNat i9), .int (Int32.ofNat i13), .int (-1), .retAddr 0] [.int 1] S15 post
          refine zv_br ht rfl rfl rfl (fun _ => ?_) (fun h => absurd (by decide) h)
          refine zv_c1 ht rfl rfl (zv_c1 ht rfl rfl (zv_c1 ht rfl rfl ?_))
          refine zv_br ht rfl rfl rfl (fun _ => ?_) (fun h => absurd (by decide) h)
          refine zv_c1 ht rfl rfl (zv_c1 ht rfl rfl (zv_c1 ht rfl rfl ?_))
          refine zv_cl ht rfl rfl rfl rfl (by omega) (Nat.le_of_ble_eq_true rfl) (h1 S9 y9 i9 at9 rd9 nx9 hF9 e9 k9 t9 p9 g9 S11 hF11 e11 k11 p11 S13 y13 i13 at13 rd13 nx13 hF13 e13 k13 t13 p13 g13 S15 hF15 e15 k15 p15)
        · show zEv d 151 267 [.ref 1592, .int 13, .int (Int32.ofNat p), .int (Int32.ofNat deep), .int 2, .int (Int32.ofNat i9), .int (Int32.ofNat i13), .int (-1), .retAddr 0] [] S16 post
          refine zv_c1 ht rfl rfl ?_
          have C22 : ∀ (pst21 : Outcome × zS → Prop), (pst21 (.returned (some (.int 0)), S16)) → zCall (d - 1) 125 [.ref 1592] S16 pst21 := by
            intro pst21 k24
            have ht23 : ztab 125 = ztb125 := rfl
            show zEv (d - 1) 125 0 [.ref 1592] [] S16 pst21
            refine zv_c1 ht23 rfl rfl ?_
            refine zv_e1 (x := 1) ht23 rfl rfl x16.1 ?_
            refine zv_br ht23 rfl rfl rfl (fun _ => ?_) (fun h => absurd (by decide) h)
            refine zv_c1 ht23 rfl rfl ?_
            exact zv_rc ht23 rfl rfl rfl rfl (by decide) k24
          refine zv_cl ht rfl rfl rfl rfl (by omega) (Nat.le_of_ble_eq_true rfl) (C22 _ ?_)
          show zEv d 151 271 [.ref 1592, .int 13, .int (Int32.ofNat p), .int (Int32.ofNat deep), .int 2, .int (Int32.ofNat i9), .int (Int32.ofNat i13), .int (-1), .retAddr 0] [.int 0] S16 post
          refine zv_br ht rfl rfl rfl (fun h => absurd h (by decide)) (fun _ => ?_)
          refine zv_c1 ht rfl rfl ?_
          exact zv_rt ht rfl rfl rfl rfl (h2 S9 y9 i9 at9 rd9 nx9 hF9 e9 k9 t9 p9 g9 S11 hF11 e11 k11 p11 S13 y13 i13 at13 rd13 nx13 hF13 e13 k13 t13 p13 g13 S16 hF16 e16 k16 x16)
      · show zEv d 151 235 [.ref 1592, .int 13, .int (Int32.ofNat p), .int (Int32.ofNat deep), .int 2, .int (Int32.ofNat i9), .retAddr 0, .retAddr 0, .retAddr 0] [.int u14] S14 post
        refine zv_c2 (L' := [.ref 1592, .int 13, .int (Int32.ofNat p), .int (Int32.ofNat deep), .int 2, .int (Int32.ofNat i9), .int u14, .retAddr 0, .retAddr 0]) ht rfl rfl ?_
        refine zv_c1 ht rfl rfl ?_
        refine zv_c2 (L' := [.ref 1592, .int 13, .int (Int32.ofNat p), .int (Int32.ofNat deep), .int 2, .int (Int32.ofNat i9), .int u14, .int (-1), .retAddr 0]) ht rfl rfl ?_
        refine zv_c1 ht rfl rfl (zv_c1 ht rfl rfl ?_)
        refine zv_br ht rfl rfl rfl (fun _ => ?_) (fun h => absurd (by decide) h)
        refine zv_c1 ht rfl rfl (zv_c1 ht rfl rfl ?_)
        refine zv_cl ht rfl rfl rfl rfl (by omega) (Nat.le_of_ble_eq_true rfl) (m_wantX (S := S14) (w := 41) hF14 (by omega) x14 (by omega) ?_)
        show zEv d 151 267 [.ref 1592, .int 13, .int (Int32.ofNat p), .int (Int32.ofNat deep), .int 2, .int (Int32.ofNat i9), .int u14, .int (-1), .retAddr 0] [] S14 post
        refine zv_c1 ht rfl rfl ?_
        have C26 : ∀ (pst25 : Outcome × zS → Prop), (pst25 (.returned (some (.int 0)), S14)) → zCall (d - 1) 125 [.ref 1592] S14 pst25 := by
          intro pst25 k29
          have ht27 : ztab 125 = ztb125 := rfl
          show zEv (d - 1) 125 0 [.ref 1592] [] S14 pst25
          refine zv_c1 ht27 rfl rfl ?_
          refine zv_e1 (x := Int32.ofNat kk14) ht27 rfl rfl x14.1 ?_
          refine zv_br ht27 rfl rfl rfl (fun b28 => ?_) (fun b28 => (show False from by have hq := b28; have hz : kk14 = 0 := (zi_eqE (a := kk14) (b := 0) rfl rfl (by omega) (by omega)).mp (Classical.not_not.mp hq); omega).elim)
          refine zv_c1 ht27 rfl rfl ?_
          exact zv_rc ht27 rfl rfl rfl rfl (by decide) k29
        refine zv_cl ht rfl rfl rfl rfl (by omega) (Nat.le_of_ble_eq_true rfl) (C26 _ ?_)
        show zEv d 151 271 [.ref 1592, .int 13, .int (Int32.ofNat p), .int (Int32.ofNat deep), .int 2, .int (Int32.ofNat i9), .int u14, .int (-1), .retAddr 0] [.int 0] S14 post
        refine zv_br ht rfl rfl rfl (fun h => absurd h (by decide)) (fun _ => ?_)
        refine zv_c1 ht rfl rfl ?_
        exact zv_rt ht rfl rfl rfl rfl (h3 S9 y9 i9 at9 rd9 nx9 hF9 e9 k9 t9 p9 g9 S11 hF11 e11 k11 p11 S14 u14 kk14 z14 hF14 e14 k14 x14 w14)
    · show zEv d 151 228 [.ref 1592, .int 13, .int (Int32.ofNat p), .int (Int32.ofNat deep), .int 2, .int (Int32.ofNat i9), .retAddr 0, .retAddr 0, .retAddr 0] [] S12 post
      refine zv_c1 ht rfl rfl (zv_c1 ht rfl rfl (zv_c1 ht rfl rfl ?_))
      refine zv_e1 (x := Int32.ofNat (deep + 1)) ht rfl rfl (zi_addE (a := deep) (b := 1) rfl rfl) ?_
      refine zv_cl ht rfl rfl rfl rfl (by omega) (Nat.le_of_ble_eq_true rfl) (m_fragX (S := S12) hF12 (by omega) x12 ?_)
      show zEv d 151 235 [.ref 1592, .int 13, .int (Int32.ofNat p), .int (Int32.ofNat deep), .int 2, .int (Int32.ofNat i9), .retAddr 0, .retAddr 0, .retAddr 0] [.int (-1)] S12 post
      refine zv_c2 (L' := [.ref 1592, .int 13, .int (Int32.ofNat p), .int (Int32.ofNat deep), .int 2, .int (Int32.ofNat i9), .int (-1), .retAddr 0, .retAddr 0]) ht rfl rfl ?_
      refine zv_c1 ht rfl rfl ?_
      refine zv_c2 (L' := [.ref 1592, .int 13, .int (Int32.ofNat p), .int (Int32.ofNat deep), .int 2, .int (Int32.ofNat i9), .int (-1), .int (-1), .retAddr 0]) ht rfl rfl ?_
      refine zv_c1 ht rfl rfl (zv_c1 ht rfl rfl ?_)
      refine zv_br ht rfl rfl rfl (fun _ => ?_) (fun h => absurd (by decide) h)
      refine zv_c1 ht rfl rfl (zv_c1 ht rfl rfl ?_)
      refine zv_cl ht rfl rfl rfl rfl (by omega) (Nat.le_of_ble_eq_true rfl) (m_wantX (S := S12) (w := 41) hF12 (by omega) x12 (by omega) ?_)
      show zEv d 151 267 [.ref 1592, .int 13, .int (Int32.ofNat p), .int (Int32.ofNat deep), .int 2, .int (Int32.ofNat i9), .int (-1), .int (-1), .retAddr 0] [] S12 post
      refine zv_c1 ht rfl rfl ?_
      have C31 : ∀ (pst30 : Outcome × zS → Prop), (pst30 (.returned (some (.int 0)), S12)) → zCall (d - 1) 125 [.ref 1592] S12 pst30 := by
        intro pst30 k33
        have ht32 : ztab 125 = ztb125 := rfl
        show zEv (d - 1) 125 0 [.ref 1592] [] S12 pst30
        refine zv_c1 ht32 rfl rfl ?_
        refine zv_e1 (x := 1) ht32 rfl rfl x12.1 ?_
        refine zv_br ht32 rfl rfl rfl (fun _ => ?_) (fun h => absurd (by decide) h)
        refine zv_c1 ht32 rfl rfl ?_
        exact zv_rc ht32 rfl rfl rfl rfl (by decide) k33
      refine zv_cl ht rfl rfl rfl rfl (by omega) (Nat.le_of_ble_eq_true rfl) (C31 _ ?_)
      show zEv d 151 271 [.ref 1592, .int 13, .int (Int32.ofNat p), .int (Int32.ofNat deep), .int 2, .int (Int32.ofNat i9), .int (-1), .int (-1), .retAddr 0] [.int 0] S12 post
      refine zv_br ht rfl rfl rfl (fun h => absurd h (by decide)) (fun _ => ?_)
      refine zv_c1 ht rfl rfl ?_
      exact zv_rt ht rfl rfl rfl rfl (h4 S9 y9 i9 at9 rd9 nx9 hF9 e9 k9 t9 p9 g9 S12 hF12 e12 k12 x12)
  · show zEv d 151 220 [.ref 1592, .int 13, .int (Int32.ofNat p), .int (Int32.ofNat deep), .int 2, .retAddr 0, .retAddr 0, .retAddr 0, .retAddr 0] [.int u10] S10 post
    refine zv_c2 (L' := [.ref 1592, .int 13, .int (Int32.ofNat p), .int (Int32.ofNat deep), .int 2, .int u10, .retAddr 0, .retAddr 0, .retAddr 0]) ht rfl rfl ?_
    refine zv_c1 ht rfl rfl (zv_c1 ht rfl rfl ?_)
    refine zv_cl ht rfl rfl rfl rfl (by omega) (Nat.le_of_ble_eq_true rfl) (m_wantX (S := S10) (w := 44) hF10 (by omega) x10 (by omega) ?_)
    show zEv d 151 228 [.ref 1592, .int 13, .int (Int32.ofNat p), .int (Int32.ofNat deep), .int 2, .int u10, .retAddr 0, .retAddr 0, .retAddr 0] [] S10 post
    refine zv_c1 ht rfl rfl (zv_c1 ht rfl rfl (zv_c1 ht rfl rfl ?_))
    refine zv_e1 (x := Int32.ofNat (deep + 1)) ht rfl rfl (zi_addE (a := deep) (b := 1) rfl rfl) ?_
    refine zv_cl ht rfl rfl rfl rfl (by omega) (Nat.le_of_ble_eq_true rfl) (m_fragX (S := S10) hF10 (by omega) x10 ?_)
    show zEv d 151 235 [.ref 1592, .int 13, .int (Int32.ofNat p), .int (Int32.ofNat deep), .int 2, .int u10, .retAddr 0, .retAddr 0, .retAddr 0] [.int (-1)] S10 post
    refine zv_c2 (L' := [.ref 1592, .int 13, .int (Int32.ofNat p), .int (Int32.ofNat deep), .int 2, .int u10, .int (-1), .retAddr 0, .retAddr 0]) ht rfl rfl ?_
    refine zv_c1 ht rfl rfl ?_
    refine zv_c2 (L' := [.ref 1592, .int 13, .int (Int32.ofNat p), .int (Int32.ofNat deep), .int 2, .int u10, .int (-1), .int (-1), .retAddr 0]) ht rfl rfl ?_
    refine zv_c1 ht rfl rfl (zv_c1 ht rfl rfl ?_)
    refine zv_br ht rfl rfl rfl (fun _ => ?_) (fun h => absurd (by decide) h)
    refine zv_c1 ht rfl rfl (zv_c1 ht rfl rfl ?_)
    refine zv_cl ht rfl rfl rfl rfl (by omega) (Nat.le_of_ble_eq_true rfl) (m_wantX (S := S10) (w := 41) hF10 (by omega) x10 (by omega) ?_)
    show zEv d 151 267 [.ref 1592, .int 13, .int (Int32.ofNat p), .int (Int32.ofNat deep), .int 2, .int u10, .int (-1), .int (-1), .retAddr 0] [] S10 post
    refine zv_c1 ht rfl rfl ?_
    have C35 : ∀ (pst34 : Outcome × zS → Prop), (pst34 (.returned (some (.int 0)), S10)) → zCall (d - 1) 125 [.ref 1592] S10 pst34 := by
      intro pst34 k38
      have ht36 : ztab 125 = ztb125 := rfl
      show zEv (d - 1) 125 0 [.ref 1592] [] S10 pst34
      refine zv_c1 ht36 rfl rfl ?_
      refine zv_e1 (x := Int32.ofNat kk10) ht36 rfl rfl x10.1 ?_
      refine zv_br ht36 rfl rfl rfl (fun b37 => ?_) (fun b37 => (show False from by have hq := b37; have hz : kk10 = 0 := (zi_eqE (a := kk10) (b := 0) rfl rfl (by omega) (by omega)).mp (Classical.not_not.mp hq); omega).elim)
      refine zv_c1 ht36 rfl rfl ?_
      exact zv_rc ht36 rfl rfl rfl rfl (by decide) k38
    refine zv_cl ht rfl rfl rfl rfl (by omega) (Nat.le_of_ble_eq_true rfl) (C35 _ ?_)
    show zEv d 151 271 [.ref 1592, .int 13, .int (Int32.ofNat p), .int (Int32.ofNat deep), .int 2, .int u10, .int (-1), .int (-1), .retAddr 0] [.int 0] S10 post
    refine zv_br ht rfl rfl rfl (fun h => absurd h (by decide)) (fun _ => ?_)
    refine zv_c1 ht rfl rfl ?_
    exact zv_rt ht rfl rfl rfl rfl (h5 S10 u10 kk10 z10 hF10 e10 k10 x10 w10)

theorem ib_14 {d : Nat} {S : zS} (hF : zFin true S) (hd : 3 ≤ d) {tp : Nat → Nat} {sz at0 rd nx wt B : Nat} {rec : Nat → Nat → Nat → pE (zNd × Nat × Nat)} (p deep : Nat)  (hP : mP tp sz S at0 rd nx wt) (hp : p ≤ 300) (hdp : deep < 2000) (hrd : rd ≤ 80) (hs0 : sz ≤ 300) (ha0 : at0 ≤ sz) (hB : nx + 2 * (sz - at0) + 3 ≤ B) (hB3 : B ≤ 3000) (hwt : wt + (sz - at0) ≤ 2000) (hR : mRd tp sz B (d - 1) (deep + 1) rec) {post : Outcome × zS → Prop} (h1 : ∀ S9 : zS, ∀ y9 : zNd, ∀ i9 : Nat, ∀ at9 : Nat, ∀ rd9 : Nat, ∀ nx9 : Nat, (zFin true S9) → (rec (deep + 1) at0 rd = .ok (y9, at9, rd9)) → (mFr B nx wt S S9) → (mT true S9 nx nx9 y9 i9) → (mP tp sz S9 at9 rd9 nx9 wt) → (at0 < at9 ∧ at9 ≤ sz ∧ nx9 ≤ nx + 2 * (at9 - at0) ∧ rd9 ≤ 80 ∧ nx < nx9 ∧ i9 < 3000) → ∀ S11 : zS, (zFin true S11) → (pWant tp sz 44 at9 = .ok (at9 + 1)) → (mFr B nx9 wt S9 S11) → (mP tp sz S11 (at9 + 1) rd9 nx9 wt) → ∀ S13 : zS, ∀ y13 : zNd, ∀ i13 : Nat, ∀ at13 : Nat, ∀ rd13 : Nat, ∀ nx13 : Nat, (zFin true S13) → (rec (deep + 1) (at9 + 1) rd9 = .ok (y13, at13, rd13)) → (mFr B nx9 wt S11 S13) → (mT true S13 nx9 nx13 y13 i13) → (mP tp sz S13 at13 rd13 nx13 wt) → ((at9 + 1) < at13 ∧ at13 ≤ sz ∧ nx13 ≤ nx9 + 2 * (at13 - (at9 + 1)) ∧ rd13 ≤ 80 ∧ nx9 < nx13 ∧ i13 < 3000) → ∀ S15 : zS, (zFin true S15) → (pWant tp sz 41 at13 = .ok (at13 + 1)) → (mFr B nx13 wt S13 S15) → (mP tp sz S15 (at13 + 1) rd13 nx13 wt) → zCall (d - 1) 133 [.ref 1592, .int 14, .int 0, .int (Int32.ofNat p)] S15 (zAf d 151 291 [.ref 1592, .int 14, .int (Int32.ofNat p), .int (Int32.ofNat deep), .int 2, .int (Int32.ofNat i9), .int (Int32.ofNat i13), .int (-1), .retAddr 0] [] post)) (h2 : ∀ S9 : zS, ∀ y9 : zNd, ∀ i9 : Nat, ∀ at9 : Nat, ∀ rd9 : Nat, ∀ nx9 : Nat, (zFin true S9) → (rec (deep + 1) at0 rd = .ok (y9, at9, rd9)) → (mFr B nx wt S S9) → (mT true S9 nx nx9 y9 i9) → (mP tp sz S9 at9 rd9 nx9 wt) → (at0 < at9 ∧ at9 ≤ sz ∧ nx9 ≤ nx + 2 * (at9 - at0) ∧ rd9 ≤ 80 ∧ nx < nx9 ∧ i9 < 3000) → ∀ S11 : zS, (zFin true S11) → (pWant tp sz 44 at9 = .ok (at9 + 1)) → (mFr B nx9 wt S9 S11) → (mP tp sz S11 (at9 + 1) rd9 nx9 wt) → ∀ S13 : zS, ∀ y13 : zNd, ∀ i13 : Nat, ∀ at13 : Nat, ∀ rd13 : Nat, ∀ nx13 : Nat, (zFin true S13) → (rec (deep + 1) (at9 + 1) rd9 = .ok (y13, at13, rd13)) → (mFr B nx9 wt S11 S13) → (mT true S13 nx9 nx13 y13 i13) → (mP tp sz S13 at13 rd13 nx13 wt) → ((at9 + 1) < at13 ∧ at13 ≤ sz ∧ nx13 ≤ nx9 + 2 * (at13 - (at9 + 1)) ∧ rd13 ≤ 80 ∧ nx9 < nx13 ∧ i13 < 3000) → ∀ S16 : zS, (zFin true S16) → (pWant tp sz 41 at13 = .error (1, at13)) → (mFr B nx13 wt S13 S16) → (mX S16 1 at13) → post (.returned (some (.int (-1))), S16)) (h3 : ∀ S9 : zS, ∀ y9 : zNd, ∀ i9 : Nat, ∀ at9 : Nat, ∀ rd9 : Nat, ∀ nx9 : Nat, (zFin true S9) → (rec (deep + 1) at0 rd = .ok (y9, at9, rd9)) → (mFr B nx wt S S9) → (mT true S9 nx nx9 y9 i9) → (mP tp sz S9 at9 rd9 nx9 wt) → (at0 < at9 ∧ at9 ≤ sz ∧ nx9 ≤ nx + 2 * (at9 - at0) ∧ rd9 ≤ 80 ∧ nx < nx9 ∧ i9 < 3000) → ∀ S11 : zS, (zFin true S11) → (pWant tp sz 44 at9 = .ok (at9 + 1)) → (mFr B nx9 wt S9 S11) → (mP tp sz S11 (at9 + 1) rd9 nx9 wt) → ∀ S14 : zS, ∀ u14 : Int32, ∀ kk14 : Nat, ∀ z14 : Nat, (zFin true S14) → (rec (deep + 1) (at9 + 1) rd9 = .error (kk14, z14)) → (mFr B nx9 wt S11 S14) → (mX S14 kk14 z14) → (0 < kk14 ∧ kk14 < 4) → post (.returned (some (.int (-1))), S14)) (h4 : ∀ S9 : zS, ∀ y9 : zNd, ∀ i9 : Nat, ∀ at9 : Nat, ∀ rd9 : Nat, ∀ nx9 : Nat, (zFin true S9) → (rec (deep + 1) at0 rd = .ok (y9, at9, rd9)) → (mFr B nx wt S S9) → (mT true S9 nx nx9 y9 i9) → (mP tp sz S9 at9 rd9 nx9 wt) → (at0 < at9 ∧ at9 ≤ sz ∧ nx9 ≤ nx + 2 * (at9 - at0) ∧ rd9 ≤ 80 ∧ nx < nx9 ∧ i9 < 3000) → ∀ S12 : zS, (zFin true S12) → (pWant tp sz 44 at9 = .error (1, at9)) → (mFr B nx9 wt S9 S12) → (mX S12 1 at9) → post (.returned (some (.int (-1))), S12)) (h5 : ∀ S10 : zS, ∀ u10 : Int32, ∀ kk10 : Nat, ∀ z10 : Nat, (zFin true S10) → (rec (deep + 1) at0 rd = .error (kk10, z10)) → (mFr B nx wt S S10) → (mX S10 kk10 z10) → (0 < kk10 ∧ kk10 < 4) → post (.returned (some (.int (-1))), S10)) : zCall d 151 [.ref 1592, .int 14, .int (Int32.ofNat p), .int (Int32.ofNat deep)] S post := by
  have ht : ztab 151 = ztb151 := rfl
  show zEv d 151 0 [.ref 1592, .int 14, .int (Int32.ofNat p), .int (Int32.ofNat deep), .retAddr 0, .retAddr 0, .retAddr 0, .retAddr 0, .retAddr 0] [] S post
  refine zv_c1 ht rfl rfl ?_
  have C2 : ∀ (pst1 : Outcome × zS → Prop), (pst1 (.returned (some (.int 1)), S)) → zCall (d - 1) 125 [.ref 1592] S pst1 := by
    intro pst1 k4
    have ht3 : ztab 125 = ztb125 := rfl
    show zEv (d - 1) 125 0 [.ref 1592] [] S pst1
    refine zv_c1 ht3 rfl rfl ?_
    refine zv_e1 (x := 0) ht3 rfl rfl hP.1.2.2.1 ?_
    refine zv_br ht3 rfl rfl rfl (fun h => absurd h (by decide)) (fun _ => ?_)
    refine zv_c1 ht3 rfl rfl (zv_c1 ht3 rfl rfl ?_)
    exact zv_rc ht3 rfl rfl rfl rfl (by decide) k4
  refine zv_cl ht rfl rfl rfl rfl (by omega) (Nat.le_of_ble_eq_true rfl) (C2 _ ?_)
  show zEv d 151 4 [.ref 1592, .int 14, .int (Int32.ofNat p), .int (Int32.ofNat deep), .retAddr 0, .retAddr 0, .retAddr 0, .retAddr 0, .retAddr 0] [.int 1] S post
  refine zv_br ht rfl rfl rfl (fun _ => ?_) (fun h => absurd (by decide) h)
  refine zv_c1 ht rfl rfl (zv_c1 ht rfl rfl ?_)
  refine zv_br ht rfl rfl rfl (fun h => absurd h (by decide)) (fun _ => ?_)
  refine zv_c1 ht rfl rfl (zv_c1 ht rfl rfl ?_)
  refine zv_br ht rfl rfl rfl (fun h => absurd h (by decide)) (fun _ => ?_)
  refine zv_c1 ht rfl rfl (zv_c1 ht rfl rfl ?_)
  refine zv_br ht rfl rfl rfl (fun h => absurd h (by decide)) (fun _ => ?_)
  refine zv_c1 ht rfl rfl (zv_c1 ht rfl rfl ?_)
  refine zv_br ht rfl rfl rfl (fun _ => ?_) (fun h => absurd (by decide) h)
  refine zv_c1 ht rfl rfl (zv_c1 ht rfl rfl ?_)
  refine zv_br ht rfl rfl rfl (fun h => absurd h (by decide)) (fun _ => ?_)
  refine zv_c1 ht rfl rfl (zv_c1 ht rfl rfl ?_)
  refine zv_br ht rfl rfl rfl (fun h => absurd h (by decide)) (fun _ => ?_)
  refine zv_c1 ht rfl rfl (zv_c1 ht rfl rfl (zv_c1 ht rfl rfl ?_))
  have C6 : ∀ (pst5 : Outcome × zS → Prop), (pst5 (.returned (some (.int 0)), S)) → zCall (d - 1) 102 [.int 14, .int 6, .int 9] S pst5 := by
    intro pst5 k8
    have ht7 : ztab 102 = ztb102 := rfl
    show zEv (d - 1) 102 0 [.int 14, .int 6, .int 9] [] S pst5
    refine zv_c1 ht7 rfl rfl (zv_c1 ht7 rfl rfl ?_)
    refine zv_br ht7 rfl rfl rfl (fun h => absurd h (by decide)) (fun _ => ?_)
    refine zv_c1 ht7 rfl rfl (zv_c1 ht7 rfl rfl ?_)
    refine zv_br ht7 rfl rfl rfl (fun _ => ?_) (fun h => absurd (by decide) h)
    refine zv_c1 ht7 rfl rfl ?_
    exact zv_rc ht7 rfl rfl rfl rfl (by decide) k8
  refine zv_cl ht rfl rfl rfl rfl (by omega) (Nat.le_of_ble_eq_true rfl) (C6 _ ?_)
  show zEv d 151 124 [.ref 1592, .int 14, .int (Int32.ofNat p), .int (Int32.ofNat deep), .retAddr 0, .retAddr 0, .retAddr 0, .retAddr 0, .retAddr 0] [.int 0] S post
  refine zv_br ht rfl rfl rfl (fun _ => ?_) (fun h => absurd (by decide) h)
  refine zv_c1 ht rfl rfl (zv_c1 ht rfl rfl ?_)
  refine zv_br ht rfl rfl rfl (fun h => absurd h (by decide)) (fun _ => ?_)
  refine zv_c1 ht rfl rfl (zv_c1 ht rfl rfl ?_)
  refine zv_br ht rfl rfl rfl (fun _ => ?_) (fun h => absurd (by decide) h)
  refine zv_c1 ht rfl rfl (zv_c1 ht rfl rfl ?_)
  refine zv_br ht rfl rfl rfl (fun _ => ?_) (fun h => absurd (by decide) h)
  refine zv_c1 ht rfl rfl ?_
  refine zv_c2 (L' := [.ref 1592, .int 14, .int (Int32.ofNat p), .int (Int32.ofNat deep), .int 2, .retAddr 0, .retAddr 0, .retAddr 0, .retAddr 0]) ht rfl rfl ?_
  refine zv_c1 ht rfl rfl (zv_c1 ht rfl rfl (zv_c1 ht rfl rfl ?_))
  refine zv_e1 (x := Int32.ofNat (deep + 1)) ht rfl rfl (zi_addE (a := deep) (b := 1) rfl rfl) ?_
  refine zv_cl ht rfl rfl rfl rfl (by omega) (Nat.le_of_ble_eq_true rfl) (hR (S := S) (nx := nx) (wt := wt) hF hP (by omega) (by omega) (by omega) (fun S9 y9 i9 at9 rd9 nx9 hF9 e9 k9 t9 p9 g9 => ?_) (fun S10 u10 kk10 z10 hF10 e10 k10 x10 w10 => ?_))
  · show zEv d 151 220 [.ref 1592, .int 14, .int (Int32.ofNat p), .int (Int32.ofNat deep), .int 2, .retAddr 0, .retAddr 0, .retAddr 0, .retAddr 0] [.int (Int32.ofNat i9)] S9 post
    refine zv_c2 (L' := [.ref 1592, .int 14, .int (Int32.ofNat p), .int (Int32.ofNat deep), .int 2, .int (Int32.ofNat i9), .retAddr 0, .retAddr 0, .retAddr 0]) ht rfl rfl ?_
    refine zv_c1 ht rfl rfl (zv_c1 ht rfl rfl ?_)
    refine zv_cl ht rfl rfl rfl rfl (by omega) (Nat.le_of_ble_eq_true rfl) (m_want (S := S9) (tp := tp) (sz := sz) (B := B) (w := 44) hF9 (by omega) p9 (by omega) (by omega) (fun S11 hF11 e11 k11 p11 => ?_) (fun S12 hF12 e12 k12 x12 => ?_))
    · show zEv d 151 228 [.ref 1592, .int 14, .int (Int32.ofNat p), .int (Int32.ofNat deep), .int 2, .int (Int32.ofNat i9), .retAddr 0, .retAddr 0, .retAddr 0] [] S11 post
      refine zv_c1 ht rfl rfl (zv_c1 ht rfl rfl (zv_c1 ht rfl rfl ?_))
      refine zv_e1 (x := Int32.ofNat (deep + 1)) ht rfl rfl (zi_addE (a := deep) (b := 1) rfl rfl) ?_
      refine zv_cl ht rfl rfl rfl rfl (by omega) (Nat.le_of_ble_eq_true rfl) (hR (S := S11) (nx := nx9) (wt := wt) hF11 p11 (by omega) (by omega) (by omega) (fun S13 y13 i13 at13 rd13 nx13 hF13 e13 k13 t13 p13 g13 => ?_) (fun S14 u14 kk14 z14 hF14 e14 k14 x14 w14 => ?_))
      · show zEv d 151 235 [.ref 1592, .int 14, .int (Int32.ofNat p), .int (Int32.ofNat deep), .int 2, .int (Int32.ofNat i9), .retAddr 0, .retAddr 0, .retAddr 0] [.int (Int32.ofNat i13)] S13 post
        refine zv_c2 (L' := [.ref 1592, .int 14, .int (Int32.ofNat p), .int (Int32.ofNat deep), .int 2, .int (Int32.ofNat i9), .int (Int32.ofNat i13), .retAddr 0, .retAddr 0]) ht rfl rfl ?_
        refine zv_c1 ht rfl rfl ?_
        refine zv_c2 (L' := [.ref 1592, .int 14, .int (Int32.ofNat p), .int (Int32.ofNat deep), .int 2, .int (Int32.ofNat i9), .int (Int32.ofNat i13), .int (-1), .retAddr 0]) ht rfl rfl ?_
        refine zv_c1 ht rfl rfl (zv_c1 ht rfl rfl ?_)
        refine zv_br ht rfl rfl rfl (fun _ => ?_) (fun h => absurd (by decide) h)
        refine zv_c1 ht rfl rfl (zv_c1 ht rfl rfl ?_)
        refine zv_cl ht rfl rfl rfl rfl (by omega) (Nat.le_of_ble_eq_true rfl) (m_want (S := S13) (tp := tp) (sz := sz) (B := B) (w := 41) hF13 (by omega) p13 (by omega) (by omega) (fun S15 hF15 e15 k15 p15 => ?_) (fun S16 hF16 e16 k16 x16 => ?_))
        · show zEv d 151 267 [.ref 1592, .int 14, .int (Int32.ofNat p), .int (Int32.ofNat deep), .int 2, .int (Int32.ofNat i9), .int (Int32.ofNat i13), .int (-1), .retAddr 0] [] S15 post
          refine zv_c1 ht rfl rfl ?_
          have C18 : ∀ (pst17 : Outcome × zS → Prop), (pst17 (.returned (some (.int 1)), S15)) → zCall (d - 1) 125 [.ref 1592] S15 pst17 := by
            intro pst17 k20
            have ht19 : ztab 125 = ztb125 := rfl
            show zEv (d - 1) 125 0 [.ref 1592] [] S15 pst17
            refine zv_c1 ht19 rfl rfl ?_
            refine zv_e1 (x := 0) ht19 rfl rfl p15.1.2.2.1 ?_
            refine zv_br ht19 rfl rfl rfl (fun h => absurd h (by decide)) (fun _ => ?_)
            refine zv_c1 ht19 rfl rfl (zv_c1 ht19 rfl rfl ?_)
            exact zv_rc ht19 rfl rfl rfl rfl (by decide) k20
          refine zv_cl ht rfl rfl rfl rfl (by omega) (Nat.le_of_ble_eq_true rfl) (C18 _ ?_)
          show zEv d 151 271 [.ref 1592, .int 14, .int (Int32.ofNat p), .int (Int32.ofNat deep), .int 2, .int (Int32.ofNat i9), .int (Int32.ofNat i13), .int (-1), .retAddr 0] [.int 1] S15 post
          refine zv_br ht rfl rfl rfl (fun _ => ?_) (fun h => absurd (by decide) h)
          refine zv_c1 ht rfl rfl (zv_c1 ht rfl rfl (zv_c1 ht rfl rfl ?_))
          refine zv_br ht rfl rfl rfl (fun _ => ?_) (fun h => absurd (by decide) h)
          refine zv_c1 ht rfl rfl (zv_c1 ht rfl rfl (zv_c1 ht rfl rfl ?_))
          refine zv_cl ht rfl rfl rfl rfl (by omega) (Nat.le_of_ble_eq_true rfl) (h1 S9 y9 i9 at9 rd9 nx9 hF9 e9 k9 t9 p9 g9 S11 hF11 e11 k11 p11 S13 y13 i13 at13 rd13 nx13 hF13 e13 k13 t13 p13 g13 S15 hF15 e15 k15 p15)
        · show zEv d 151 267 [.ref 1592, .int 14, .int (Int32.ofNat p), .int (Int32.ofNat deep), .int 2, .int (Int32.ofNat i9), .int (Int32.ofNat i13), .int (-1), .retAddr 0] [] S16 post
          refine zv_c1 ht rfl rfl ?_
          have C22 : ∀ (pst21 : Outcome × zS → Prop), (pst21 (.returned (some (.int 0)), S16)) → zCall (d - 1) 125 [.ref 1592] S16 pst21 := by
            intro pst21 k24
            have ht23 : ztab 125 = ztb125 := rfl
            show zEv (d - 1) 125 0 [.ref 1592] [] S16 pst21
            refine zv_c1 ht23 rfl rfl ?_
            refine zv_e1 (x := 1) ht23 rfl rfl x16.1 ?_
            refine zv_br ht23 rfl rfl rfl (fun _ => ?_) (fun h => absurd (by decide) h)
            refine zv_c1 ht23 rfl rfl ?_
            exact zv_rc ht23 rfl rfl rfl rfl (by decide) k24
          refine zv_cl ht rfl rfl rfl rfl (by omega) (Nat.le_of_ble_eq_true rfl) (C22 _ ?_)
          show zEv d 151 271 [.ref 1592, .int 14, .int (Int32.ofNat p), .int (Int32.ofNat deep), .int 2, .int (Int32.ofNat i9), .int (Int32.ofNat i13), .int (-1), .retAddr 0] [.int 0] S16 post
          refine zv_br ht rfl rfl rfl (fun h => absurd h (by decide)) (fun _ => ?_)
          refine zv_c1 ht rfl rfl ?_
          exact zv_rt ht rfl rfl rfl rfl (h2 S9 y9 i9 at9 rd9 nx9 hF9 e9 k9 t9 p9 g9 S11 hF11 e11 k11 p11 S13 y13 i13 at13 rd13 nx13 hF13 e13 k13 t13 p13 g13 S16 hF16 e16 k16 x16)
      · show zEv d 151 235 [.ref 1592, .int 14, .int (Int32.ofNat p), .int (Int32.ofNat deep), .int 2, .int (Int32.ofNat i9), .retAddr 0, .retAddr 0, .retAddr 0] [.int u14] S14 post
        refine zv_c2 (L' := [.ref 1592, .int 14, .int (Int32.ofNat p), .int (Int32.ofNat deep), .int 2, .int (Int32.ofNat i9), .int u14, .retAddr 0, .retAddr 0]) ht rfl rfl ?_
        refine zv_c1 ht rfl rfl ?_
        refine zv_c2 (L' := [.ref 1592, .int 14, .int (Int32.ofNat p), .int (Int32.ofNat deep), .int 2, .int (Int32.ofNat i9), .int u14, .int (-1), .retAddr 0]) ht rfl rfl ?_
        refine zv_c1 ht rfl rfl (zv_c1 ht rfl rfl ?_)
        refine zv_br ht rfl rfl rfl (fun _ => ?_) (fun h => absurd (by decide) h)
        refine zv_c1 ht rfl rfl (zv_c1 ht rfl rfl ?_)
        refine zv_cl ht rfl rfl rfl rfl (by omega) (Nat.le_of_ble_eq_true rfl) (m_wantX (S := S14) (w := 41) hF14 (by omega) x14 (by omega) ?_)
        show zEv d 151 267 [.ref 1592, .int 14, .int (Int32.ofNat p), .int (Int32.ofNat deep), .int 2, .int (Int32.ofNat i9), .int u14, .int (-1), .retAddr 0] [] S14 post
        refine zv_c1 ht rfl rfl ?_
        have C26 : ∀ (pst25 : Outcome × zS → Prop), (pst25 (.returned (some (.int 0)), S14)) → zCall (d - 1) 125 [.ref 1592] S14 pst25 := by
          intro pst25 k29
          have ht27 : ztab 125 = ztb125 := rfl
          show zEv (d - 1) 125 0 [.ref 1592] [] S14 pst25
          refine zv_c1 ht27 rfl rfl ?_
          refine zv_e1 (x := Int32.ofNat kk14) ht27 rfl rfl x14.1 ?_
          refine zv_br ht27 rfl rfl rfl (fun b28 => ?_) (fun b28 => (show False from by have hq := b28; have hz : kk14 = 0 := (zi_eqE (a := kk14) (b := 0) rfl rfl (by omega) (by omega)).mp (Classical.not_not.mp hq); omega).elim)
          refine zv_c1 ht27 rfl rfl ?_
          exact zv_rc ht27 rfl rfl rfl rfl (by decide) k29
        refine zv_cl ht rfl rfl rfl rfl (by omega) (Nat.le_of_ble_eq_true rfl) (C26 _ ?_)
        show zEv d 151 271 [.ref 1592, .int 14, .int (Int32.ofNat p), .int (Int32.ofNat deep), .int 2, .int (Int32.ofNat i9), .int u14, .int (-1), .retAddr 0] [.int 0] S14 post
        refine zv_br ht rfl rfl rfl (fun h => absurd h (by decide)) (fun _ => ?_)
        refine zv_c1 ht rfl rfl ?_
        exact zv_rt ht rfl rfl rfl rfl (h3 S9 y9 i9 at9 rd9 nx9 hF9 e9 k9 t9 p9 g9 S11 hF11 e11 k11 p11 S14 u14 kk14 z14 hF14 e14 k14 x14 w14)
    · show zEv d 151 228 [.ref 1592, .int 14, .int (Int32.ofNat p), .int (Int32.ofNat deep), .int 2, .int (Int32.ofNat i9), .retAddr 0, .retAddr 0, .retAddr 0] [] S12 post
      refine zv_c1 ht rfl rfl (zv_c1 ht rfl rfl (zv_c1 ht rfl rfl ?_))
      refine zv_e1 (x := Int32.ofNat (deep + 1)) ht rfl rfl (zi_addE (a := deep) (b := 1) rfl rfl) ?_
      refine zv_cl ht rfl rfl rfl rfl (by omega) (Nat.le_of_ble_eq_true rfl) (m_fragX (S := S12) hF12 (by omega) x12 ?_)
      show zEv d 151 235 [.ref 1592, .int 14, .int (Int32.ofNat p), .int (Int32.ofNat deep), .int 2, .int (Int32.ofNat i9), .retAddr 0, .retAddr 0, .retAddr 0] [.int (-1)] S12 post
      refine zv_c2 (L' := [.ref 1592, .int 14, .int (Int32.ofNat p), .int (Int32.ofNat deep), .int 2, .int (Int32.ofNat i9), .int (-1), .retAddr 0, .retAddr 0]) ht rfl rfl ?_
      refine zv_c1 ht rfl rfl ?_
      refine zv_c2 (L' := [.ref 1592, .int 14, .int (Int32.ofNat p), .int (Int32.ofNat deep), .int 2, .int (Int32.ofNat i9), .int (-1), .int (-1), .retAddr 0]) ht rfl rfl ?_
      refine zv_c1 ht rfl rfl (zv_c1 ht rfl rfl ?_)
      refine zv_br ht rfl rfl rfl (fun _ => ?_) (fun h => absurd (by decide) h)
      refine zv_c1 ht rfl rfl (zv_c1 ht rfl rfl ?_)
      refine zv_cl ht rfl rfl rfl rfl (by omega) (Nat.le_of_ble_eq_true rfl) (m_wantX (S := S12) (w := 41) hF12 (by omega) x12 (by omega) ?_)
      show zEv d 151 267 [.ref 1592, .int 14, .int (Int32.ofNat p), .int (Int32.ofNat deep), .int 2, .int (Int32.ofNat i9), .int (-1), .int (-1), .retAddr 0] [] S12 post
      refine zv_c1 ht rfl rfl ?_
      have C31 : ∀ (pst30 : Outcome × zS → Prop), (pst30 (.returned (some (.int 0)), S12)) → zCall (d - 1) 125 [.ref 1592] S12 pst30 := by
        intro pst30 k33
        have ht32 : ztab 125 = ztb125 := rfl
        show zEv (d - 1) 125 0 [.ref 1592] [] S12 pst30
        refine zv_c1 ht32 rfl rfl ?_
        refine zv_e1 (x := 1) ht32 rfl rfl x12.1 ?_
        refine zv_br ht32 rfl rfl rfl (fun _ => ?_) (fun h => absurd (by decide) h)
        refine zv_c1 ht32 rfl rfl ?_
        exact zv_rc ht32 rfl rfl rfl rfl (by decide) k33
      refine zv_cl ht rfl rfl rfl rfl (by omega) (Nat.le_of_ble_eq_true rfl) (C31 _ ?_)
      show zEv d 151 271 [.ref 1592, .int 14, .int (Int32.ofNat p), .int (Int32.ofNat deep), .int 2, .int (Int32.ofNat i9), .int (-1), .int (-1), .retAddr 0] [.int 0] S12 post
      refine zv_br ht rfl rfl rfl (fun h => absurd h (by decide)) (fun _ => ?_)
      refine zv_c1 ht rfl rfl ?_
      exact zv_rt ht rfl rfl rfl rfl (h4 S9 y9 i9 at9 rd9 nx9 hF9 e9 k9 t9 p9 g9 S12 hF12 e12 k12 x12)
  · show zEv d 151 220 [.ref 1592, .int 14, .int (Int32.ofNat p), .int (Int32.ofNat deep), .int 2, .retAddr 0, .retAddr 0, .retAddr 0, .retAddr 0] [.int u10] S10 post
    refine zv_c2 (L' := [.ref 1592, .int 14, .int (Int32.ofNat p), .int (Int32.ofNat deep), .int 2, .int u10, .retAddr 0, .retAddr 0, .retAddr 0]) ht rfl rfl ?_
    refine zv_c1 ht rfl rfl (zv_c1 ht rfl rfl ?_)
    refine zv_cl ht rfl rfl rfl rfl (by omega) (Nat.le_of_ble_eq_true rfl) (m_wantX (S := S10) (w := 44) hF10 (by omega) x10 (by omega) ?_)
    show zEv d 151 228 [.ref 1592, .int 14, .int (Int32.ofNat p), .int (Int32.ofNat deep), .int 2, .int u10, .retAddr 0, .retAddr 0, .retAddr 0] [] S10 post
    refine zv_c1 ht rfl rfl (zv_c1 ht rfl rfl (zv_c1 ht rfl rfl ?_))
    refine zv_e1 (x := Int32.ofNat (deep + 1)) ht rfl rfl (zi_addE (a := deep) (b := 1) rfl rfl) ?_
    refine zv_cl ht rfl rfl rfl rfl (by omega) (Nat.le_of_ble_eq_true rfl) (m_fragX (S := S10) hF10 (by omega) x10 ?_)
    show zEv d 151 235 [.ref 1592, .int 14, .int (Int32.ofNat p), .int (Int32.ofNat deep), .int 2, .int u10, .retAddr 0, .retAddr 0, .retAddr 0] [.int (-1)] S10 post
    refine zv_c2 (L' := [.ref 1592, .int 14, .int (Int32.ofNat p), .int (Int32.ofNat deep), .int 2, .int u10, .int (-1), .retAddr 0, .retAddr 0]) ht rfl rfl ?_
    refine zv_c1 ht rfl rfl ?_
    refine zv_c2 (L' := [.ref 1592, .int 14, .int (Int32.ofNat p), .int (Int32.ofNat deep), .int 2, .int u10, .int (-1), .int (-1), .retAddr 0]) ht rfl rfl ?_
    refine zv_c1 ht rfl rfl (zv_c1 ht rfl rfl ?_)
    refine zv_br ht rfl rfl rfl (fun _ => ?_) (fun h => absurd (by decide) h)
    refine zv_c1 ht rfl rfl (zv_c1 ht rfl rfl ?_)
    refine zv_cl ht rfl rfl rfl rfl (by omega) (Nat.le_of_ble_eq_true rfl) (m_wantX (S := S10) (w := 41) hF10 (by omega) x10 (by omega) ?_)
    show zEv d 151 267 [.ref 1592, .int 14, .int (Int32.ofNat p), .int (Int32.ofNat deep), .int 2, .int u10, .int (-1), .int (-1), .retAddr 0] [] S10 post
    refine zv_c1 ht rfl rfl ?_
    have C35 : ∀ (pst34 : Outcome × zS → Prop), (pst34 (.returned (some (.int 0)), S10)) → zCall (d - 1) 125 [.ref 1592] S10 pst34 := by
      intro pst34 k38
      have ht36 : ztab 125 = ztb125 := rfl
      show zEv (d - 1) 125 0 [.ref 1592] [] S10 pst34
      refine zv_c1 ht36 rfl rfl ?_
      refine zv_e1 (x := Int32.ofNat kk10) ht36 rfl rfl x10.1 ?_
      refine zv_br ht36 rfl rfl rfl (fun b37 => ?_) (fun b37 => (show False from by have hq := b37; have hz : kk10 = 0 := (zi_eqE (a := kk10) (b := 0) rfl rfl (by omega) (by omega)).mp (Classical.not_not.mp hq); omega).elim)
      refine zv_c1 ht36 rfl rfl ?_
      exact zv_rc ht36 rfl rfl rfl rfl (by decide) k38
    refine zv_cl ht rfl rfl rfl rfl (by omega) (Nat.le_of_ble_eq_true rfl) (C35 _ ?_)
    show zEv d 151 271 [.ref 1592, .int 14, .int (Int32.ofNat p), .int (Int32.ofNat deep), .int 2, .int u10, .int (-1), .int (-1), .retAddr 0] [.int 0] S10 post
    refine zv_br ht rfl rfl rfl (fun h => absurd h (by decide)) (fun _ => ?_)
    refine zv_c1 ht rfl rfl ?_
    exact zv_rt ht rfl rfl rfl rfl (h5 S10 u10 kk10 z10 hF10 e10 k10 x10 w10)

theorem ib_15 {d : Nat} {S : zS} (hF : zFin true S) (hd : 3 ≤ d) {tp : Nat → Nat} {sz at0 rd nx wt B : Nat} {rec : Nat → Nat → Nat → pE (zNd × Nat × Nat)} (p deep : Nat)  (hP : mP tp sz S at0 rd nx wt) (hp : p ≤ 300) (hdp : deep < 2000) (hrd : rd ≤ 80) (hs0 : sz ≤ 300) (ha0 : at0 ≤ sz) (hB : nx + 2 * (sz - at0) + 3 ≤ B) (hB3 : B ≤ 3000) (hwt : wt + (sz - at0) ≤ 2000) (hR : mRd tp sz B (d - 1) (deep + 1) rec) {post : Outcome × zS → Prop} (h1 : ∀ S9 : zS, ∀ y9 : zNd, ∀ i9 : Nat, ∀ at9 : Nat, ∀ rd9 : Nat, ∀ nx9 : Nat, (zFin true S9) → (rec (deep + 1) at0 rd = .ok (y9, at9, rd9)) → (mFr B nx wt S S9) → (mT true S9 nx nx9 y9 i9) → (mP tp sz S9 at9 rd9 nx9 wt) → (at0 < at9 ∧ at9 ≤ sz ∧ nx9 ≤ nx + 2 * (at9 - at0) ∧ rd9 ≤ 80 ∧ nx < nx9 ∧ i9 < 3000) → ∀ S11 : zS, (zFin true S11) → (pWant tp sz 44 at9 = .ok (at9 + 1)) → (mFr B nx9 wt S9 S11) → (mP tp sz S11 (at9 + 1) rd9 nx9 wt) → ∀ S13 : zS, ∀ y13 : zNd, ∀ i13 : Nat, ∀ at13 : Nat, ∀ rd13 : Nat, ∀ nx13 : Nat, (zFin true S13) → (rec (deep + 1) (at9 + 1) rd9 = .ok (y13, at13, rd13)) → (mFr B nx9 wt S11 S13) → (mT true S13 nx9 nx13 y13 i13) → (mP tp sz S13 at13 rd13 nx13 wt) → ((at9 + 1) < at13 ∧ at13 ≤ sz ∧ nx13 ≤ nx9 + 2 * (at13 - (at9 + 1)) ∧ rd13 ≤ 80 ∧ nx9 < nx13 ∧ i13 < 3000) → ∀ S15 : zS, (zFin true S15) → (pWant tp sz 41 at13 = .ok (at13 + 1)) → (mFr B nx13 wt S13 S15) → (mP tp sz S15 (at13 + 1) rd13 nx13 wt) → zCall (d - 1) 133 [.ref 1592, .int 15, .int 0, .int (Int32.ofNat p)] S15 (zAf d 151 291 [.ref 1592, .int 15, .int (Int32.ofNat p), .int (Int32.ofNat deep), .int 2, .int (Int32.ofNat i9), .int (Int32.ofNat i13), .int (-1), .retAddr 0] [] post)) (h2 : ∀ S9 : zS, ∀ y9 : zNd, ∀ i9 : Nat, ∀ at9 : Nat, ∀ rd9 : Nat, ∀ nx9 : Nat, (zFin true S9) → (rec (deep + 1) at0 rd = .ok (y9, at9, rd9)) → (mFr B nx wt S S9) → (mT true S9 nx nx9 y9 i9) → (mP tp sz S9 at9 rd9 nx9 wt) → (at0 < at9 ∧ at9 ≤ sz ∧ nx9 ≤ nx + 2 * (at9 - at0) ∧ rd9 ≤ 80 ∧ nx < nx9 ∧ i9 < 3000) → ∀ S11 : zS, (zFin true S11) → (pWant tp sz 44 at9 = .ok (at9 + 1)) → (mFr B nx9 wt S9 S11) → (mP tp sz S11 (at9 + 1) rd9 nx9 wt) → ∀ S13 : zS, ∀ y13 : zNd, ∀ i13 : Nat, ∀ at13 : Nat, ∀ rd13 : Nat, ∀ nx13 : Nat, (zFin true S13) → (rec (deep + 1) (at9 + 1) rd9 = .ok (y13, at13, rd13)) → (mFr B nx9 wt S11 S13) → (mT true S13 nx9 nx13 y13 i13) → (mP tp sz S13 at13 rd13 nx13 wt) → ((at9 + 1) < at13 ∧ at13 ≤ sz ∧ nx13 ≤ nx9 + 2 * (at13 - (at9 + 1)) ∧ rd13 ≤ 80 ∧ nx9 < nx13 ∧ i13 < 3000) → ∀ S16 : zS, (zFin true S16) → (pWant tp sz 41 at13 = .error (1, at13)) → (mFr B nx13 wt S13 S16) → (mX S16 1 at13) → post (.returned (some (.int (-1))), S16)) (h3 : ∀ S9 : zS, ∀ y9 : zNd, ∀ i9 : Nat, ∀ at9 : Nat, ∀ rd9 : Nat, ∀ nx9 : Nat, (zFin true S9) → (rec (deep + 1) at0 rd = .ok (y9, at9, rd9)) → (mFr B nx wt S S9) → (mT true S9 nx nx9 y9 i9) → (mP tp sz S9 at9 rd9 nx9 wt) → (at0 < at9 ∧ at9 ≤ sz ∧ nx9 ≤ nx + 2 * (at9 - at0) ∧ rd9 ≤ 80 ∧ nx < nx9 ∧ i9 < 3000) → ∀ S11 : zS, (zFin true S11) → (pWant tp sz 44 at9 = .ok (at9 + 1)) → (mFr B nx9 wt S9 S11) → (mP tp sz S11 (at9 + 1) rd9 nx9 wt) → ∀ S14 : zS, ∀ u14 : Int32, ∀ kk14 : Nat, ∀ z14 : Nat, (zFin true S14) → (rec (deep + 1) (at9 + 1) rd9 = .error (kk14, z14)) → (mFr B nx9 wt S11 S14) → (mX S14 kk14 z14) → (0 < kk14 ∧ kk14 < 4) → post (.returned (some (.int (-1))), S14)) (h4 : ∀ S9 : zS, ∀ y9 : zNd, ∀ i9 : Nat, ∀ at9 : Nat, ∀ rd9 : Nat, ∀ nx9 : Nat, (zFin true S9) → (rec (deep + 1) at0 rd = .ok (y9, at9, rd9)) → (mFr B nx wt S S9) → (mT true S9 nx nx9 y9 i9) → (mP tp sz S9 at9 rd9 nx9 wt) → (at0 < at9 ∧ at9 ≤ sz ∧ nx9 ≤ nx + 2 * (at9 - at0) ∧ rd9 ≤ 80 ∧ nx < nx9 ∧ i9 < 3000) → ∀ S12 : zS, (zFin true S12) → (pWant tp sz 44 at9 = .error (1, at9)) → (mFr B nx9 wt S9 S12) → (mX S12 1 at9) → post (.returned (some (.int (-1))), S12)) (h5 : ∀ S10 : zS, ∀ u10 : Int32, ∀ kk10 : Nat, ∀ z10 : Nat, (zFin true S10) → (rec (deep + 1) at0 rd = .error (kk10, z10)) → (mFr B nx wt S S10) → (mX S10 kk10 z10) → (0 < kk10 ∧ kk10 < 4) → post (.returned (some (.int (-1))), S10)) : zCall d 151 [.ref 1592, .int 15, .int (Int32.ofNat p), .int (Int32.ofNat deep)] S post := by
  have ht : ztab 151 = ztb151 := rfl
  show zEv d 151 0 [.ref 1592, .int 15, .int (Int32.ofNat p), .int (Int32.ofNat deep), .retAddr 0, .retAddr 0, .retAddr 0, .retAddr 0, .retAddr 0] [] S post
  refine zv_c1 ht rfl rfl ?_
  have C2 : ∀ (pst1 : Outcome × zS → Prop), (pst1 (.returned (some (.int 1)), S)) → zCall (d - 1) 125 [.ref 1592] S pst1 := by
    intro pst1 k4
    have ht3 : ztab 125 = ztb125 := rfl
    show zEv (d - 1) 125 0 [.ref 1592] [] S pst1
    refine zv_c1 ht3 rfl rfl ?_
    refine zv_e1 (x := 0) ht3 rfl rfl hP.1.2.2.1 ?_
    refine zv_br ht3 rfl rfl rfl (fun h => absurd h (by decide)) (fun _ => ?_)
    refine zv_c1 ht3 rfl rfl (zv_c1 ht3 rfl rfl ?_)
    exact zv_rc ht3 rfl rfl rfl rfl (by decide) k4
  refine zv_cl ht rfl rfl rfl rfl (by omega) (Nat.le_of_ble_eq_true rfl) (C2 _ ?_)
  show zEv d 151 4 [.ref 1592, .int 15, .int (Int32.ofNat p), .int (Int32.ofNat deep), .retAddr 0, .retAddr 0, .retAddr 0, .retAddr 0, .retAddr 0] [.int 1] S post
  refine zv_br ht rfl rfl rfl (fun _ => ?_) (fun h => absurd (by decide) h)
  refine zv_c1 ht rfl rfl (zv_c1 ht rfl rfl ?_)
  refine zv_br ht rfl rfl rfl (fun h => absurd h (by decide)) (fun _ => ?_)
  refine zv_c1 ht rfl rfl (zv_c1 ht rfl rfl ?_)
  refine zv_br ht rfl rfl rfl (fun h => absurd h (by decide)) (fun _ => ?_)
  refine zv_c1 ht rfl rfl (zv_c1 ht rfl rfl ?_)
  refine zv_br ht rfl rfl rfl (fun h => absurd h (by decide)) (fun _ => ?_)
  refine zv_c1 ht rfl rfl (zv_c1 ht rfl rfl ?_)
  refine zv_br ht rfl rfl rfl (fun _ => ?_) (fun h => absurd (by decide) h)
  refine zv_c1 ht rfl rfl (zv_c1 ht rfl rfl ?_)
  refine zv_br ht rfl rfl rfl (fun h => absurd h (by decide)) (fun _ => ?_)
  refine zv_c1 ht rfl rfl (zv_c1 ht rfl rfl ?_)
  refine zv_br ht rfl rfl rfl (fun h => absurd h (by decide)) (fun _ => ?_)
  refine zv_c1 ht rfl rfl (zv_c1 ht rfl rfl (zv_c1 ht rfl rfl ?_))
  have C6 : ∀ (pst5 : Outcome × zS → Prop), (pst5 (.returned (some (.int 0)), S)) → zCall (d - 1) 102 [.int 15, .int 6, .int 9] S pst5 := by
    intro pst5 k8
    have ht7 : ztab 102 = ztb102 := rfl
    show zEv (d - 1) 102 0 [.int 15, .int 6, .int 9] [] S pst5
    refine zv_c1 ht7 rfl rfl (zv_c1 ht7 rfl rfl ?_)
    refine zv_br ht7 rfl rfl rfl (fun h => absurd h (by decide)) (fun _ => ?_)
    refine zv_c1 ht7 rfl rfl (zv_c1 ht7 rfl rfl ?_)
    refine zv_br ht7 rfl rfl rfl (fun _ => ?_) (fun h => absurd (by decide) h)
    refine zv_c1 ht7 rfl rfl ?_
    exact zv_rc ht7 rfl rfl rfl rfl (by decide) k8
  refine zv_cl ht rfl rfl rfl rfl (by omega) (Nat.le_of_ble_eq_true rfl) (C6 _ ?_)
  show zEv d 151 124 [.ref 1592, .int 15, .int (Int32.ofNat p), .int (Int32.ofNat deep), .retAddr 0, .retAddr 0, .retAddr 0, .retAddr 0, .retAddr 0] [.int 0] S post
  refine zv_br ht rfl rfl rfl (fun _ => ?_) (fun h => absurd (by decide) h)
  refine zv_c1 ht rfl rfl (zv_c1 ht rfl rfl ?_)
  refine zv_br ht rfl rfl rfl (fun h => absurd h (by decide)) (fun _ => ?_)
  refine zv_c1 ht rfl rfl (zv_c1 ht rfl rfl ?_)
  refine zv_br ht rfl rfl rfl (fun _ => ?_) (fun h => absurd (by decide) h)
  refine zv_c1 ht rfl rfl (zv_c1 ht rfl rfl ?_)
  refine zv_br ht rfl rfl rfl (fun _ => ?_) (fun h => absurd (by decide) h)
  refine zv_c1 ht rfl rfl ?_
  refine zv_c2 (L' := [.ref 1592, .int 15, .int (Int32.ofNat p), .int (Int32.ofNat deep), .int 2, .retAddr 0, .retAddr 0, .retAddr 0, .retAddr 0]) ht rfl rfl ?_
  refine zv_c1 ht rfl rfl (zv_c1 ht rfl rfl (zv_c1 ht rfl rfl ?_))
  refine zv_e1 (x := Int32.ofNat (deep + 1)) ht rfl rfl (zi_addE (a := deep) (b := 1) rfl rfl) ?_
  refine zv_cl ht rfl rfl rfl rfl (by omega) (Nat.le_of_ble_eq_true rfl) (hR (S := S) (nx := nx) (wt := wt) hF hP (by omega) (by omega) (by omega) (fun S9 y9 i9 at9 rd9 nx9 hF9 e9 k9 t9 p9 g9 => ?_) (fun S10 u10 kk10 z10 hF10 e10 k10 x10 w10 => ?_))
  · show zEv d 151 220 [.ref 1592, .int 15, .int (Int32.ofNat p), .int (Int32.ofNat deep), .int 2, .retAddr 0, .retAddr 0, .retAddr 0, .retAddr 0] [.int (Int32.ofNat i9)] S9 post
    refine zv_c2 (L' := [.ref 1592, .int 15, .int (Int32.ofNat p), .int (Int32.ofNat deep), .int 2, .int (Int32.ofNat i9), .retAddr 0, .retAddr 0, .retAddr 0]) ht rfl rfl ?_
    refine zv_c1 ht rfl rfl (zv_c1 ht rfl rfl ?_)
    refine zv_cl ht rfl rfl rfl rfl (by omega) (Nat.le_of_ble_eq_true rfl) (m_want (S := S9) (tp := tp) (sz := sz) (B := B) (w := 44) hF9 (by omega) p9 (by omega) (by omega) (fun S11 hF11 e11 k11 p11 => ?_) (fun S12 hF12 e12 k12 x12 => ?_))
    · show zEv d 151 228 [.ref 1592, .int 15, .int (Int32.ofNat p), .int (Int32.ofNat deep), .int 2, .int (Int32.ofNat i9), .retAddr 0, .retAddr 0, .retAddr 0] [] S11 post
      refine zv_c1 ht rfl rfl (zv_c1 ht rfl rfl (zv_c1 ht rfl rfl ?_))
      refine zv_e1 (x := Int32.ofNat (deep + 1)) ht rfl rfl (zi_addE (a := deep) (b := 1) rfl rfl) ?_
      refine zv_cl ht rfl rfl rfl rfl (by omega) (Nat.le_of_ble_eq_true rfl) (hR (S := S11) (nx := nx9) (wt := wt) hF11 p11 (by omega) (by omega) (by omega) (fun S13 y13 i13 at13 rd13 nx13 hF13 e13 k13 t13 p13 g13 => ?_) (fun S14 u14 kk14 z14 hF14 e14 k14 x14 w14 => ?_))
      · show zEv d 151 235 [.ref 1592, .int 15, .int (Int32.ofNat p), .int (Int32.ofNat deep), .int 2, .int (Int32.ofNat i9), .retAddr 0, .retAddr 0, .retAddr 0] [.int (Int32.ofNat i13)] S13 post
        refine zv_c2 (L' := [.ref 1592, .int 15, .int (Int32.ofNat p), .int (Int32.ofNat deep), .int 2, .int (Int32.ofNat i9), .int (Int32.ofNat i13), .retAddr 0, .retAddr 0]) ht rfl rfl ?_
        refine zv_c1 ht rfl rfl ?_
        refine zv_c2 (L' := [.ref 1592, .int 15, .int (Int32.ofNat p), .int (Int32.ofNat deep), .int 2, .int (Int32.ofNat i9), .int (Int32.ofNat i13), .int (-1), .retAddr 0]) ht rfl rfl ?_
        refine zv_c1 ht rfl rfl (zv_c1 ht rfl rfl ?_)
        refine zv_br ht rfl rfl rfl (fun _ => ?_) (fun h => absurd (by decide) h)
        refine zv_c1 ht rfl rfl (zv_c1 ht rfl rfl ?_)
        refine zv_cl ht rfl rfl rfl rfl (by omega) (Nat.le_of_ble_eq_true rfl) (m_want (S := S13) (tp := tp) (sz := sz) (B := B) (w := 41) hF13 (by omega) p13 (by omega) (by omega) (fun S15 hF15 e15 k15 p15 => ?_) (fun S16 hF16 e16 k16 x16 => ?_))
        · show zEv d 151 267 [.ref 1592, .int 15, .int (Int32.ofNat p), .int (Int32.ofNat deep), .int 2, .int (Int32.ofNat i9), .int (Int32.ofNat i13), .int (-1), .retAddr 0] [] S15 post
          refine zv_c1 ht rfl rfl ?_
          have C18 : ∀ (pst17 : Outcome × zS → Prop), (pst17 (.returned (some (.int 1)), S15)) → zCall (d - 1) 125 [.ref 1592] S15 pst17 := by
            intro pst17 k20
            have ht19 : ztab 125 = ztb125 := rfl
            show zEv (d - 1) 125 0 [.ref 1592] [] S15 pst17
            refine zv_c1 ht19 rfl rfl ?_
            refine zv_e1 (x := 0) ht19 rfl rfl p15.1.2.2.1 ?_
            refine zv_br ht19 rfl rfl rfl (fun h => absurd h (by decide)) (fun _ => ?_)
            refine zv_c1 ht19 rfl rfl (zv_c1 ht19 rfl rfl ?_)
            exact zv_rc ht19 rfl rfl rfl rfl (by decide) k20
          refine zv_cl ht rfl rfl rfl rfl (by omega) (Nat.le_of_ble_eq_true rfl) (C18 _ ?_)
          show zEv d 151 271 [.ref 1592, .int 15, .int (Int32.ofNat p), .int (Int32.ofNat deep), .int 2, .int (Int32.ofNat i9), .int (Int32.ofNat i13), .int (-1), .retAddr 0] [.int 1] S15 post
          refine zv_br ht rfl rfl rfl (fun _ => ?_) (fun h => absurd (by decide) h)
          refine zv_c1 ht rfl rfl (zv_c1 ht rfl rfl (zv_c1 ht rfl rfl ?_))
          refine zv_br ht rfl rfl rfl (fun _ => ?_) (fun h => absurd (by decide) h)
          refine zv_c1 ht rfl rfl (zv_c1 ht rfl rfl (zv_c1 ht rfl rfl ?_))
          refine zv_cl ht rfl rfl rfl rfl (by omega) (Nat.le_of_ble_eq_true rfl) (h1 S9 y9 i9 at9 rd9 nx9 hF9 e9 k9 t9 p9 g9 S11 hF11 e11 k11 p11 S13 y13 i13 at13 rd13 nx13 hF13 e13 k13 t13 p13 g13 S15 hF15 e15 k15 p15)
        · show zEv d 151 267 [.ref 1592, .int 15, .int (Int32.ofNat p), .int (Int32.ofNat deep), .int 2, .int (Int32.ofNat i9), .int (Int32.ofNat i13), .int (-1), .retAddr 0] [] S16 post
          refine zv_c1 ht rfl rfl ?_
          have C22 : ∀ (pst21 : Outcome × zS → Prop), (pst21 (.returned (some (.int 0)), S16)) → zCall (d - 1) 125 [.ref 1592] S16 pst21 := by
            intro pst21 k24
            have ht23 : ztab 125 = ztb125 := rfl
            show zEv (d - 1) 125 0 [.ref 1592] [] S16 pst21
            refine zv_c1 ht23 rfl rfl ?_
            refine zv_e1 (x := 1) ht23 rfl rfl x16.1 ?_
            refine zv_br ht23 rfl rfl rfl (fun _ => ?_) (fun h => absurd (by decide) h)
            refine zv_c1 ht23 rfl rfl ?_
            exact zv_rc ht23 rfl rfl rfl rfl (by decide) k24
          refine zv_cl ht rfl rfl rfl rfl (by omega) (Nat.le_of_ble_eq_true rfl) (C22 _ ?_)
          show zEv d 151 271 [.ref 1592, .int 15, .int (Int32.ofNat p), .int (Int32.ofNat deep), .int 2, .int (Int32.ofNat i9), .int (Int32.ofNat i13), .int (-1), .retAddr 0] [.int 0] S16 post
          refine zv_br ht rfl rfl rfl (fun h => absurd h (by decide)) (fun _ => ?_)
          refine zv_c1 ht rfl rfl ?_
          exact zv_rt ht rfl rfl rfl rfl (h2 S9 y9 i9 at9 rd9 nx9 hF9 e9 k9 t9 p9 g9 S11 hF11 e11 k11 p11 S13 y13 i13 at13 rd13 nx13 hF13 e13 k13 t13 p13 g13 S16 hF16 e16 k16 x16)
      · show zEv d 151 235 [.ref 1592, .int 15, .int (Int32.ofNat p), .int (Int32.ofNat deep), .int 2, .int (Int32.ofNat i9), .retAddr 0, .retAddr 0, .retAddr 0] [.int u14] S14 post
        refine zv_c2 (L' := [.ref 1592, .int 15, .int (Int32.ofNat p), .int (Int32.ofNat deep), .int 2, .int (Int32.ofNat i9), .int u14, .retAddr 0, .retAddr 0]) ht rfl rfl ?_
        refine zv_c1 ht rfl rfl ?_
        refine zv_c2 (L' := [.ref 1592, .int 15, .int (Int32.ofNat p), .int (Int32.ofNat deep), .int 2, .int (Int32.ofNat i9), .int u14, .int (-1), .retAddr 0]) ht rfl rfl ?_
        refine zv_c1 ht rfl rfl (zv_c1 ht rfl rfl ?_)
        refine zv_br ht rfl rfl rfl (fun _ => ?_) (fun h => absurd (by decide) h)
        refine zv_c1 ht rfl rfl (zv_c1 ht rfl rfl ?_)
        refine zv_cl ht rfl rfl rfl rfl (by omega) (Nat.le_of_ble_eq_true rfl) (m_wantX (S := S14) (w := 41) hF14 (by omega) x14 (by omega) ?_)
        show zEv d 151 267 [.ref 1592, .int 15, .int (Int32.ofNat p), .int (Int32.ofNat deep), .int 2, .int (Int32.ofNat i9), .int u14, .int (-1), .retAddr 0] [] S14 post
        refine zv_c1 ht rfl rfl ?_
        have C26 : ∀ (pst25 : Outcome × zS → Prop), (pst25 (.returned (some (.int 0)), S14)) → zCall (d - 1) 125 [.ref 1592] S14 pst25 := by
          intro pst25 k29
          have ht27 : ztab 125 = ztb125 := rfl
          show zEv (d - 1) 125 0 [.ref 1592] [] S14 pst25
          refine zv_c1 ht27 rfl rfl ?_
          refine zv_e1 (x := Int32.ofNat kk14) ht27 rfl rfl x14.1 ?_
          refine zv_br ht27 rfl rfl rfl (fun b28 => ?_) (fun b28 => (show False from by have hq := b28; have hz : kk14 = 0 := (zi_eqE (a := kk14) (b := 0) rfl rfl (by omega) (by omega)).mp (Classical.not_not.mp hq); omega).elim)
          refine zv_c1 ht27 rfl rfl ?_
          exact zv_rc ht27 rfl rfl rfl rfl (by decide) k29
        refine zv_cl ht rfl rfl rfl rfl (by omega) (Nat.le_of_ble_eq_true rfl) (C26 _ ?_)
        show zEv d 151 271 [.ref 1592, .int 15, .int (Int32.ofNat p), .int (Int32.ofNat deep), .int 2, .int (Int32.ofNat i9), .int u14, .int (-1), .retAddr 0] [.int 0] S14 post
        refine zv_br ht rfl rfl rfl (fun h => absurd h (by decide)) (fun _ => ?_)
        refine zv_c1 ht rfl rfl ?_
        exact zv_rt ht rfl rfl rfl rfl (h3 S9 y9 i9 at9 rd9 nx9 hF9 e9 k9 t9 p9 g9 S11 hF11 e11 k11 p11 S14 u14 kk14 z14 hF14 e14 k14 x14 w14)
    · show zEv d 151 228 [.ref 1592, .int 15, .int (Int32.ofNat p), .int (Int32.ofNat deep), .int 2, .int (Int32.ofNat i9), .retAddr 0, .retAddr 0, .retAddr 0] [] S12 post
      refine zv_c1 ht rfl rfl (zv_c1 ht rfl rfl (zv_c1 ht rfl rfl ?_))
      refine zv_e1 (x := Int32.ofNat (deep + 1)) ht rfl rfl (zi_addE (a := deep) (b := 1) rfl rfl) ?_
      refine zv_cl ht rfl rfl rfl rfl (by omega) (Nat.le_of_ble_eq_true rfl) (m_fragX (S := S12) hF12 (by omega) x12 ?_)
      show zEv d 151 235 [.ref 1592, .int 15, .int (Int32.ofNat p), .int (Int32.ofNat deep), .int 2, .int (Int32.ofNat i9), .retAddr 0, .retAddr 0, .retAddr 0] [.int (-1)] S12 post
      refine zv_c2 (L' := [.ref 1592, .int 15, .int (Int32.ofNat p), .int (Int32.ofNat deep), .int 2, .int (Int32.ofNat i9), .int (-1), .retAddr 0, .retAddr 0]) ht rfl rfl ?_
      refine zv_c1 ht rfl rfl ?_
      refine zv_c2 (L' := [.ref 1592, .int 15, .int (Int32.ofNat p), .int (Int32.ofNat deep), .int 2, .int (Int32.ofNat i9), .int (-1), .int (-1), .retAddr 0]) ht rfl rfl ?_
      refine zv_c1 ht rfl rfl (zv_c1 ht rfl rfl ?_)
      refine zv_br ht rfl rfl rfl (fun _ => ?_) (fun h => absurd (by decide) h)
      refine zv_c1 ht rfl rfl (zv_c1 ht rfl rfl ?_)
      refine zv_cl ht rfl rfl rfl rfl (by omega) (Nat.le_of_ble_eq_true rfl) (m_wantX (S := S12) (w := 41) hF12 (by omega) x12 (by omega) ?_)
      show zEv d 151 267 [.ref 1592, .int 15, .int (Int32.ofNat p), .int (Int32.ofNat deep), .int 2, .int (Int32.ofNat i9), .int (-1), .int (-1), .retAddr 0] [] S12 post
      refine zv_c1 ht rfl rfl ?_
      have C31 : ∀ (pst30 : Outcome × zS → Prop), (pst30 (.returned (some (.int 0)), S12)) → zCall (d - 1) 125 [.ref 1592] S12 pst30 := by
        intro pst30 k33
        have ht32 : ztab 125 = ztb125 := rfl
        show zEv (d - 1) 125 0 [.ref 1592] [] S12 pst30
        refine zv_c1 ht32 rfl rfl ?_
        refine zv_e1 (x := 1) ht32 rfl rfl x12.1 ?_
        refine zv_br ht32 rfl rfl rfl (fun _ => ?_) (fun h => absurd (by decide) h)
        refine zv_c1 ht32 rfl rfl ?_
        exact zv_rc ht32 rfl rfl rfl rfl (by decide) k33
      refine zv_cl ht rfl rfl rfl rfl (by omega) (Nat.le_of_ble_eq_true rfl) (C31 _ ?_)
      show zEv d 151 271 [.ref 1592, .int 15, .int (Int32.ofNat p), .int (Int32.ofNat deep), .int 2, .int (Int32.ofNat i9), .int (-1), .int (-1), .retAddr 0] [.int 0] S12 post
      refine zv_br ht rfl rfl rfl (fun h => absurd h (by decide)) (fun _ => ?_)
      refine zv_c1 ht rfl rfl ?_
      exact zv_rt ht rfl rfl rfl rfl (h4 S9 y9 i9 at9 rd9 nx9 hF9 e9 k9 t9 p9 g9 S12 hF12 e12 k12 x12)
  · show zEv d 151 220 [.ref 1592, .int 15, .int (Int32.ofNat p), .int (Int32.ofNat deep), .int 2, .retAddr 0, .retAddr 0, .retAddr 0, .retAddr 0] [.int u10] S10 post
    refine zv_c2 (L' := [.ref 1592, .int 15, .int (Int32.ofNat p), .int (Int32.ofNat deep), .int 2, .int u10, .retAddr 0, .retAddr 0, .retAddr 0]) ht rfl rfl ?_
    refine zv_c1 ht rfl rfl (zv_c1 ht rfl rfl ?_)
    refine zv_cl ht rfl rfl rfl rfl (by omega) (Nat.le_of_ble_eq_true rfl) (m_wantX (S := S10) (w := 44) hF10 (by omega) x10 (by omega) ?_)
    show zEv d 151 228 [.ref 1592, .int 15, .int (Int32.ofNat p), .int (Int32.ofNat deep), .int 2, .int u10, .retAddr 0, .retAddr 0, .retAddr 0] [] S10 post
    refine zv_c1 ht rfl rfl (zv_c1 ht rfl rfl (zv_c1 ht rfl rfl ?_))
    refine zv_e1 (x := Int32.ofNat (deep + 1)) ht rfl rfl (zi_addE (a := deep) (b := 1) rfl rfl) ?_
    refine zv_cl ht rfl rfl rfl rfl (by omega) (Nat.le_of_ble_eq_true rfl) (m_fragX (S := S10) hF10 (by omega) x10 ?_)
    show zEv d 151 235 [.ref 1592, .int 15, .int (Int32.ofNat p), .int (Int32.ofNat deep), .int 2, .int u10, .retAddr 0, .retAddr 0, .retAddr 0] [.int (-1)] S10 post
    refine zv_c2 (L' := [.ref 1592, .int 15, .int (Int32.ofNat p), .int (Int32.ofNat deep), .int 2, .int u10, .int (-1), .retAddr 0, .retAddr 0]) ht rfl rfl ?_
    refine zv_c1 ht rfl rfl ?_
    refine zv_c2 (L' := [.ref 1592, .int 15, .int (Int32.ofNat p), .int (Int32.ofNat deep), .int 2, .int u10, .int (-1), .int (-1), .retAddr 0]) ht rfl rfl ?_
    refine zv_c1 ht rfl rfl (zv_c1 ht rfl rfl ?_)
    refine zv_br ht rfl rfl rfl (fun _ => ?_) (fun h => absurd (by decide) h)
    refine zv_c1 ht rfl rfl (zv_c1 ht rfl rfl ?_)
    refine zv_cl ht rfl rfl rfl rfl (by omega) (Nat.le_of_ble_eq_true rfl) (m_wantX (S := S10) (w := 41) hF10 (by omega) x10 (by omega) ?_)
    show zEv d 151 267 [.ref 1592, .int 15, .int (Int32.ofNat p), .int (Int32.ofNat deep), .int 2, .int u10, .int (-1), .int (-1), .retAddr 0] [] S10 post
    refine zv_c1 ht rfl rfl ?_
    have C35 : ∀ (pst34 : Outcome × zS → Prop), (pst34 (.returned (some (.int 0)), S10)) → zCall (d - 1) 125 [.ref 1592] S10 pst34 := by
      intro pst34 k38
      have ht36 : ztab 125 = ztb125 := rfl
      show zEv (d - 1) 125 0 [.ref 1592] [] S10 pst34
      refine zv_c1 ht36 rfl rfl ?_
      refine zv_e1 (x := Int32.ofNat kk10) ht36 rfl rfl x10.1 ?_
      refine zv_br ht36 rfl rfl rfl (fun b37 => ?_) (fun b37 => (show False from by have hq := b37; have hz : kk10 = 0 := (zi_eqE (a := kk10) (b := 0) rfl rfl (by omega) (by omega)).mp (Classical.not_not.mp hq); omega).elim)
      refine zv_c1 ht36 rfl rfl ?_
      exact zv_rc ht36 rfl rfl rfl rfl (by decide) k38
    refine zv_cl ht rfl rfl rfl rfl (by omega) (Nat.le_of_ble_eq_true rfl) (C35 _ ?_)
    show zEv d 151 271 [.ref 1592, .int 15, .int (Int32.ofNat p), .int (Int32.ofNat deep), .int 2, .int u10, .int (-1), .int (-1), .retAddr 0] [.int 0] S10 post
    refine zv_br ht rfl rfl rfl (fun h => absurd h (by decide)) (fun _ => ?_)
    refine zv_c1 ht rfl rfl ?_
    exact zv_rt ht rfl rfl rfl rfl (h5 S10 u10 kk10 z10 hF10 e10 k10 x10 w10)

theorem ib_16 {d : Nat} {S : zS} (hF : zFin true S) (hd : 3 ≤ d) {tp : Nat → Nat} {sz at0 rd nx wt B : Nat} {rec : Nat → Nat → Nat → pE (zNd × Nat × Nat)} (p deep : Nat)  (hP : mP tp sz S at0 rd nx wt) (hp : p ≤ 300) (hdp : deep < 2000) (hrd : rd ≤ 80) (hs0 : sz ≤ 300) (ha0 : at0 ≤ sz) (hB : nx + 2 * (sz - at0) + 3 ≤ B) (hB3 : B ≤ 3000) (hwt : wt + (sz - at0) ≤ 2000) (hR : mRd tp sz B (d - 1) (deep + 1) rec) {post : Outcome × zS → Prop} (h1 : ∀ S9 : zS, ∀ y9 : zNd, ∀ i9 : Nat, ∀ at9 : Nat, ∀ rd9 : Nat, ∀ nx9 : Nat, (zFin true S9) → (rec (deep + 1) at0 rd = .ok (y9, at9, rd9)) → (mFr B nx wt S S9) → (mT true S9 nx nx9 y9 i9) → (mP tp sz S9 at9 rd9 nx9 wt) → (at0 < at9 ∧ at9 ≤ sz ∧ nx9 ≤ nx + 2 * (at9 - at0) ∧ rd9 ≤ 80 ∧ nx < nx9 ∧ i9 < 3000) → ∀ S11 : zS, (zFin true S11) → (pWant tp sz 44 at9 = .ok (at9 + 1)) → (mFr B nx9 wt S9 S11) → (mP tp sz S11 (at9 + 1) rd9 nx9 wt) → ∀ S13 : zS, ∀ y13 : zNd, ∀ i13 : Nat, ∀ at13 : Nat, ∀ rd13 : Nat, ∀ nx13 : Nat, (zFin true S13) → (rec (deep + 1) (at9 + 1) rd9 = .ok (y13, at13, rd13)) → (mFr B nx9 wt S11 S13) → (mT true S13 nx9 nx13 y13 i13) → (mP tp sz S13 at13 rd13 nx13 wt) → ((at9 + 1) < at13 ∧ at13 ≤ sz ∧ nx13 ≤ nx9 + 2 * (at13 - (at9 + 1)) ∧ rd13 ≤ 80 ∧ nx9 < nx13 ∧ i13 < 3000) → ∀ S15 : zS, (zFin true S15) → (pWant tp sz 41 at13 = .ok (at13 + 1)) → (mFr B nx13 wt S13 S15) → (mP tp sz S15 (at13 + 1) rd13 nx13 wt) → zCall (d - 1) 133 [.ref 1592, .int 16, .int 0, .int (Int32.ofNat p)] S15 (zAf d 151 291 [.ref 1592, .int 16, .int (Int32.ofNat p), .int (Int32.ofNat deep), .int 2, .int (Int32.ofNat i9), .int (Int32.ofNat i13), .int (-1), .retAddr 0] [] post)) (h2 : ∀ S9 : zS, ∀ y9 : zNd, ∀ i9 : Nat, ∀ at9 : Nat, ∀ rd9 : Nat, ∀ nx9 : Nat, (zFin true S9) → (rec (deep + 1) at0 rd = .ok (y9, at9, rd9)) → (mFr B nx wt S S9) → (mT true S9 nx nx9 y9 i9) → (mP tp sz S9 at9 rd9 nx9 wt) → (at0 < at9 ∧ at9 ≤ sz ∧ nx9 ≤ nx + 2 * (at9 - at0) ∧ rd9 ≤ 80 ∧ nx < nx9 ∧ i9 < 3000) → ∀ S11 : zS, (zFin true S11) → (pWant tp sz 44 at9 = .ok (at9 + 1)) → (mFr B nx9 wt S9 S11) → (mP tp sz S11 (at9 + 1) rd9 nx9 wt) → ∀ S13 : zS, ∀ y13 : zNd, ∀ i13 : Nat, ∀ at13 : Nat, ∀ rd13 : Nat, ∀ nx13 : Nat, (zFin true S13) → (rec (deep + 1) (at9 + 1) rd9 = .ok (y13, at13, rd13)) → (mFr B nx9 wt S11 S13) → (mT true S13 nx9 nx13 y13 i13) → (mP tp sz S13 at13 rd13 nx13 wt) → ((at9 + 1) < at13 ∧ at13 ≤ sz ∧ nx13 ≤ nx9 + 2 * (at13 - (at9 + 1)) ∧ rd13 ≤ 80 ∧ nx9 < nx13 ∧ i13 < 3000) → ∀ S16 : zS, (zFin true S16) → (pWant tp sz 41 at13 = .error (1, at13)) → (mFr B nx13 wt S13 S16) → (mX S16 1 at13) → post (.returned (some (.int (-1))), S16)) (h3 : ∀ S9 : zS, ∀ y9 : zNd, ∀ i9 : Nat, ∀ at9 : Nat, ∀ rd9 : Nat, ∀ nx9 : Nat, (zFin true S9) → (rec (deep + 1) at0 rd = .ok (y9, at9, rd9)) → (mFr B nx wt S S9) → (mT true S9 nx nx9 y9 i9) → (mP tp sz S9 at9 rd9 nx9 wt) → (at0 < at9 ∧ at9 ≤ sz ∧ nx9 ≤ nx + 2 * (at9 - at0) ∧ rd9 ≤ 80 ∧ nx < nx9 ∧ i9 < 3000) → ∀ S11 : zS, (zFin true S11) → (pWant tp sz 44 at9 = .ok (at9 + 1)) → (mFr B nx9 wt S9 S11) → (mP tp sz S11 (at9 + 1) rd9 nx9 wt) → ∀ S14 : zS, ∀ u14 : Int32, ∀ kk14 : Nat, ∀ z14 : Nat, (zFin true S14) → (rec (deep + 1) (at9 + 1) rd9 = .error (kk14, z14)) → (mFr B nx9 wt S11 S14) → (mX S14 kk14 z14) → (0 < kk14 ∧ kk14 < 4) → post (.returned (some (.int (-1))), S14)) (h4 : ∀ S9 : zS, ∀ y9 : zNd, ∀ i9 : Nat, ∀ at9 : Nat, ∀ rd9 : Nat, ∀ nx9 : Nat, (zFin true S9) → (rec (deep + 1) at0 rd = .ok (y9, at9, rd9)) → (mFr B nx wt S S9) → (mT true S9 nx nx9 y9 i9) → (mP tp sz S9 at9 rd9 nx9 wt) → (at0 < at9 ∧ at9 ≤ sz ∧ nx9 ≤ nx + 2 * (at9 - at0) ∧ rd9 ≤ 80 ∧ nx < nx9 ∧ i9 < 3000) → ∀ S12 : zS, (zFin true S12) → (pWant tp sz 44 at9 = .error (1, at9)) → (mFr B nx9 wt S9 S12) → (mX S12 1 at9) → post (.returned (some (.int (-1))), S12)) (h5 : ∀ S10 : zS, ∀ u10 : Int32, ∀ kk10 : Nat, ∀ z10 : Nat, (zFin true S10) → (rec (deep + 1) at0 rd = .error (kk10, z10)) → (mFr B nx wt S S10) → (mX S10 kk10 z10) → (0 < kk10 ∧ kk10 < 4) → post (.returned (some (.int (-1))), S10)) : zCall d 151 [.ref 1592, .int 16, .int (Int32.ofNat p), .int (Int32.ofNat deep)] S post := by
  have ht : ztab 151 = ztb151 := rfl
  show zEv d 151 0 [.ref 1592, .int 16, .int (Int32.ofNat p), .int (Int32.ofNat deep), .retAddr 0, .retAddr 0, .retAddr 0, .retAddr 0, .retAddr 0] [] S post
  refine zv_c1 ht rfl rfl ?_
  have C2 : ∀ (pst1 : Outcome × zS → Prop), (pst1 (.returned (some (.int 1)), S)) → zCall (d - 1) 125 [.ref 1592] S pst1 := by
    intro pst1 k4
    have ht3 : ztab 125 = ztb125 := rfl
    show zEv (d - 1) 125 0 [.ref 1592] [] S pst1
    refine zv_c1 ht3 rfl rfl ?_
    refine zv_e1 (x := 0) ht3 rfl rfl hP.1.2.2.1 ?_
    refine zv_br ht3 rfl rfl rfl (fun h => absurd h (by decide)) (fun _ => ?_)
    refine zv_c1 ht3 rfl rfl (zv_c1 ht3 rfl rfl ?_)
    exact zv_rc ht3 rfl rfl rfl rfl (by decide) k4
  refine zv_cl ht rfl rfl rfl rfl (by omega) (Nat.le_of_ble_eq_true rfl) (C2 _ ?_)
  show zEv d 151 4 [.ref 1592, .int 16, .int (Int32.ofNat p), .int (Int32.ofNat deep), .retAddr 0, .retAddr 0, .retAddr 0, .retAddr 0, .retAddr 0] [.int 1] S post
  refine zv_br ht rfl rfl rfl (fun _ => ?_) (fun h => absurd (by decide) h)
  refine zv_c1 ht rfl rfl (zv_c1 ht rfl rfl ?_)
  refine zv_br ht rfl rfl rfl (fun h => absurd h (by decide)) (fun _ => ?_)
  refine zv_c1 ht rfl rfl (zv_c1 ht rfl rfl ?_)
  refine zv_br ht rfl rfl rfl (fun h => absurd h (by decide)) (fun _ => ?_)
  refine zv_c1 ht rfl rfl (zv_c1 ht rfl rfl ?_)
  refine zv_br ht rfl rfl rfl (fun h => absurd h (by decide)) (fun _ => ?_)
  refine zv_c1 ht rfl rfl (zv_c1 ht rfl rfl ?_)
  refine zv_br ht rfl rfl rfl (fun _ => ?_) (fun h => absurd (by decide) h)
  refine zv_c1 ht rfl rfl (zv_c1 ht rfl rfl ?_)
  refine zv_br ht rfl rfl rfl (fun h => absurd h (by decide)) (fun _ => ?_)
  refine zv_c1 ht rfl rfl (zv_c1 ht rfl rfl ?_)
  refine zv_br ht rfl rfl rfl (fun h => absurd h (by decide)) (fun _ => ?_)
  refine zv_c1 ht rfl rfl (zv_c1 ht rfl rfl (zv_c1 ht rfl rfl ?_))
  have C6 : ∀ (pst5 : Outcome × zS → Prop), (pst5 (.returned (some (.int 0)), S)) → zCall (d - 1) 102 [.int 16, .int 6, .int 9] S pst5 := by
    intro pst5 k8
    have ht7 : ztab 102 = ztb102 := rfl
    show zEv (d - 1) 102 0 [.int 16, .int 6, .int 9] [] S pst5
    refine zv_c1 ht7 rfl rfl (zv_c1 ht7 rfl rfl ?_)
    refine zv_br ht7 rfl rfl rfl (fun h => absurd h (by decide)) (fun _ => ?_)
    refine zv_c1 ht7 rfl rfl (zv_c1 ht7 rfl rfl ?_)
    refine zv_br ht7 rfl rfl rfl (fun _ => ?_) (fun h => absurd (by decide) h)
    refine zv_c1 ht7 rfl rfl ?_
    exact zv_rc ht7 rfl rfl rfl rfl (by decide) k8
  refine zv_cl ht rfl rfl rfl rfl (by omega) (Nat.le_of_ble_eq_true rfl) (C6 _ ?_)
  show zEv d 151 124 [.ref 1592, .int 16, .int (Int32.ofNat p), .int (Int32.ofNat deep), .retAddr 0, .retAddr 0, .retAddr 0, .retAddr 0, .retAddr 0] [.int 0] S post
  refine zv_br ht rfl rfl rfl (fun _ => ?_) (fun h => absurd (by decide) h)
  refine zv_c1 ht rfl rfl (zv_c1 ht rfl rfl ?_)
  refine zv_br ht rfl rfl rfl (fun h => absurd h (by decide)) (fun _ => ?_)
  refine zv_c1 ht rfl rfl (zv_c1 ht rfl rfl ?_)
  refine zv_br ht rfl rfl rfl (fun _ => ?_) (fun h => absurd (by decide) h)
  refine zv_c1 ht rfl rfl (zv_c1 ht rfl rfl ?_)
  refine zv_br ht rfl rfl rfl (fun _ => ?_) (fun h => absurd (by decide) h)
  refine zv_c1 ht rfl rfl ?_
  refine zv_c2 (L' := [.ref 1592, .int 16, .int (Int32.ofNat p), .int (Int32.ofNat deep), .int 2, .retAddr 0, .retAddr 0, .retAddr 0, .retAddr 0]) ht rfl rfl ?_
  refine zv_c1 ht rfl rfl (zv_c1 ht rfl rfl (zv_c1 ht rfl rfl ?_))
  refine zv_e1 (x := Int32.ofNat (deep + 1)) ht rfl rfl (zi_addE (a := deep) (b := 1) rfl rfl) ?_
  refine zv_cl ht rfl rfl rfl rfl (by omega) (Nat.le_of_ble_eq_true rfl) (hR (S := S) (nx := nx) (wt := wt) hF hP (by omega) (by omega) (by omega) (fun S9 y9 i9 at9 rd9 nx9 hF9 e9 k9 t9 p9 g9 => ?_) (fun S10 u10 kk10 z10 hF10 e10 k10 x10 w10 => ?_))
  · show zEv d 151 220 [.ref 1592, .int 16, .int (Int32.ofNat p), .int (Int32.ofNat deep), .int 2, .retAddr 0, .retAddr 0, .retAddr 0, .retAddr 0] [.int (Int32.ofNat i9)] S9 post
    refine zv_c2 (L' := [.ref 1592, .int 16, .int (Int32.ofNat p), .int (Int32.ofNat deep), .int 2, .int (Int32.ofNat i9), .retAddr 0, .retAddr 0, .retAddr 0]) ht rfl rfl ?_
    refine zv_c1 ht rfl rfl (zv_c1 ht rfl rfl ?_)
    refine zv_cl ht rfl rfl rfl rfl (by omega) (Nat.le_of_ble_eq_true rfl) (m_want (S := S9) (tp := tp) (sz := sz) (B := B) (w := 44) hF9 (by omega) p9 (by omega) (by omega) (fun S11 hF11 e11 k11 p11 => ?_) (fun S12 hF12 e12 k12 x12 => ?_))
    · show zEv d 151 228 [.ref 1592, .int 16, .int (Int32.ofNat p), .int (Int32.ofNat deep), .int 2, .int (Int32.ofNat i9), .retAddr 0, .retAddr 0, .retAddr 0] [] S11 post
      refine zv_c1 ht rfl rfl (zv_c1 ht rfl rfl (zv_c1 ht rfl rfl ?_))
      refine zv_e1 (x := Int32.ofNat (deep + 1)) ht rfl rfl (zi_addE (a := deep) (b := 1) rfl rfl) ?_
      refine zv_cl ht rfl rfl rfl rfl (by omega) (Nat.le_of_ble_eq_true rfl) (hR (S := S11) (nx := nx9) (wt := wt) hF11 p11 (by omega) (by omega) (by omega) (fun S13 y13 i13 at13 rd13 nx13 hF13 e13 k13 t13 p13 g13 => ?_) (fun S14 u14 kk14 z14 hF14 e14 k14 x14 w14 => ?_))
      · show zEv d 151 235 [.ref 1592, .int 16, .int (Int32.ofNat p), .int (Int32.ofNat deep), .int 2, .int (Int32.ofNat i9), .retAddr 0, .retAddr 0, .retAddr 0] [.int (Int32.ofNat i13)] S13 post
        refine zv_c2 (L' := [.ref 1592, .int 16, .int (Int32.ofNat p), .int (Int32.ofNat deep), .int 2, .int (Int32.ofNat i9), .int (Int32.ofNat i13), .retAddr 0, .retAddr 0]) ht rfl rfl ?_
        refine zv_c1 ht rfl rfl ?_
        refine zv_c2 (L' := [.ref 1592, .int 16, .int (Int32.ofNat p), .int (Int32.ofNat deep), .int 2, .int (Int32.ofNat i9), .int (Int32.ofNat i13), .int (-1), .retAddr 0]) ht rfl rfl ?_
        refine zv_c1 ht rfl rfl (zv_c1 ht rfl rfl ?_)
        refine zv_br ht rfl rfl rfl (fun _ => ?_) (fun h => absurd (by decide) h)
        refine zv_c1 ht rfl rfl (zv_c1 ht rfl rfl ?_)
        refine zv_cl ht rfl rfl rfl rfl (by omega) (Nat.le_of_ble_eq_true rfl) (m_want (S := S13) (tp := tp) (sz := sz) (B := B) (w := 41) hF13 (by omega) p13 (by omega) (by omega) (fun S15 hF15 e15 k15 p15 => ?_) (fun S16 hF16 e16 k16 x16 => ?_))
        · show zEv d 151 267 [.ref 1592, .int 16, .int (Int32.ofNat p), .int (Int32.ofNat deep), .int 2, .int (Int32.ofNat i9), .int (Int32.ofNat i13), .int (-1), .retAddr 0] [] S15 post
          refine zv_c1 ht rfl rfl ?_
          have C18 : ∀ (pst17 : Outcome × zS → Prop), (pst17 (.returned (some (.int 1)), S15)) → zCall (d - 1) 125 [.ref 1592] S15 pst17 := by
            intro pst17 k20
            have ht19 : ztab 125 = ztb125 := rfl
            show zEv (d - 1) 125 0 [.ref 1592] [] S15 pst17
            refine zv_c1 ht19 rfl rfl ?_
            refine zv_e1 (x := 0) ht19 rfl rfl p15.1.2.2.1 ?_
            refine zv_br ht19 rfl rfl rfl (fun h => absurd h (by decide)) (fun _ => ?_)
            refine zv_c1 ht19 rfl rfl (zv_c1 ht19 rfl rfl ?_)
            exact zv_rc ht19 rfl rfl rfl rfl (by decide) k20
          refine zv_cl ht rfl rfl rfl rfl (by omega) (Nat.le_of_ble_eq_true rfl) (C18 _ ?_)
          show zEv d 151 271 [.ref 1592, .int 16, .int (Int32.ofNat p), .int (Int32.ofNat deep), .int 2, .int (Int32.ofNat i9), .int (Int32.ofNat i13), .int (-1), .retAddr 0] [.int 1] S15 post
          refine zv_br ht rfl rfl rfl (fun _ => ?_) (fun h => absurd (by decide) h)
          refine zv_c1 ht rfl rfl (zv_c1 ht rfl rfl (zv_c1 ht rfl rfl ?_))
          refine zv_br ht rfl rfl rfl (fun _ => ?_) (fun h => absurd (by decide) h)
          refine zv_c1 ht rfl rfl (zv_c1 ht rfl rfl (zv_c1 ht rfl rfl ?_))
          refine zv_cl ht rfl rfl rfl rfl (by omega) (Nat.le_of_ble_eq_true rfl) (h1 S9 y9 i9 at9 rd9 nx9 hF9 e9 k9 t9 p9 g9 S11 hF11 e11 k11 p11 S13 y13 i13 at13 rd13 nx13 hF13 e13 k13 t13 p13 g13 S15 hF15 e15 k15 p15)
        · show zEv d 151 267 [.ref 1592, .int 16, .int (Int32.ofNat p), .int (Int32.ofNat deep), .int 2, .int (Int32.ofNat i9), .int (Int32.ofNat i13), .int (-1), .retAddr 0] [] S16 post
          refine zv_c1 ht rfl rfl ?_
          have C22 : ∀ (pst21 : Outcome × zS → Prop), (pst21 (.returned (some (.int 0)), S16)) → zCall (d - 1) 125 [.ref 1592] S16 pst21 := by
            intro pst21 k24
            have ht23 : ztab 125 = ztb125 := rfl
            show zEv (d - 1) 125 0 [.ref 1592] [] S16 pst21
            refine zv_c1 ht23 rfl rfl ?_
            refine zv_e1 (x := 1) ht23 rfl rfl x16.1 ?_
            refine zv_br ht23 rfl rfl rfl (fun _ => ?_) (fun h => absurd (by decide) h)
            refine zv_c1 ht23 rfl rfl ?_
            exact zv_rc ht23 rfl rfl rfl rfl (by decide) k24
          refine zv_cl ht rfl rfl rfl rfl (by omega) (Nat.le_of_ble_eq_true rfl) (C22 _ ?_)
          show zEv d 151 271 [.ref 1592, .int 16, .int (Int32.ofNat p), .int (Int32.ofNat deep), .int 2, .int (Int32.ofNat i9), .int (Int32.ofNat i13), .int (-1), .retAddr 0] [.int 0] S16 post
          refine zv_br ht rfl rfl rfl (fun h => absurd h (by decide)) (fun _ => ?_)
          refine zv_c1 ht rfl rfl ?_
          exact zv_rt ht rfl rfl rfl rfl (h2 S9 y9 i9 at9 rd9 nx9 hF9 e9 k9 t9 p9 g9 S11 hF11 e11 k11 p11 S13 y13 i13 at13 rd13 nx13 hF13 e13 k13 t13 p13 g13 S16 hF16 e16 k16 x16)
      · show zEv d 151 235 [.ref 1592, .int 16, .int (Int32.ofNat p), .int (Int32.ofNat deep), .int 2, .int (Int32.ofNat i9), .retAddr 0, .retAddr 0, .retAddr 0] [.int u14] S14 post
        refine zv_c2 (L' := [.ref 1592, .int 16, .int (Int32.ofNat p), .int (Int32.ofNat deep), .int 2, .int (Int32.ofNat i9), .int u14, .retAddr 0, .retAddr 0]) ht rfl rfl ?_
        refine zv_c1 ht rfl rfl ?_
        refine zv_c2 (L' := [.ref 1592, .int 16, .int (Int32.ofNat p), .int (Int32.ofNat deep), .int 2, .int (Int32.ofNat i9), .int u14, .int (-1), .retAddr 0]) ht rfl rfl ?_
        refine zv_c1 ht rfl rfl (zv_c1 ht rfl rfl ?_)
        refine zv_br ht rfl rfl rfl (fun _ => ?_) (fun h => absurd (by decide) h)
        refine zv_c1 ht rfl rfl (zv_c1 ht rfl rfl ?_)
        refine zv_cl ht rfl rfl rfl rfl (by omega) (Nat.le_of_ble_eq_true rfl) (m_wantX (S := S14) (w := 41) hF14 (by omega) x14 (by omega) ?_)
        show zEv d 151 267 [.ref 1592, .int 16, .int (Int32.ofNat p), .int (Int32.ofNat deep), .int 2, .int (Int32.ofNat i9), .int u14, .int (-1), .retAddr 0] [] S14 post
        refine zv_c1 ht rfl rfl ?_
        have C26 : ∀ (pst25 : Outcome × zS → Prop), (pst25 (.returned (some (.int 0)), S14)) → zCall (d - 1) 125 [.ref 1592] S14 pst25 := by
          intro pst25 k29
          have ht27 : ztab 125 = ztb125 := rfl
          show zEv (d - 1) 125 0 [.ref 1592] [] S14 pst25
          refine zv_c1 ht27 rfl rfl ?_
          refine zv_e1 (x := Int32.ofNat kk14) ht27 rfl rfl x14.1 ?_
          refine zv_br ht27 rfl rfl rfl (fun b28 => ?_) (fun b28 => (show False from by have hq := b28; have hz : kk14 = 0 := (zi_eqE (a := kk14) (b := 0) rfl rfl (by omega) (by omega)).mp (Classical.not_not.mp hq); omega).elim)
          refine zv_c1 ht27 rfl rfl ?_
          exact zv_rc ht27 rfl rfl rfl rfl (by decide) k29
        refine zv_cl ht rfl rfl rfl rfl (by omega) (Nat.le_of_ble_eq_true rfl) (C26 _ ?_)
        show zEv d 151 271 [.ref 1592, .int 16, .int (Int32.ofNat p), .int (Int32.ofNat deep), .int 2, .int (Int32.ofNat i9), .int u14, .int (-1), .retAddr 0] [.int 0] S14 post
        refine zv_br ht rfl rfl rfl (fun h => absurd h (by decide)) (fun _ => ?_)
        refine zv_c1 ht rfl rfl ?_
        exact zv_rt ht rfl rfl rfl rfl (h3 S9 y9 i9 at9 rd9 nx9 hF9 e9 k9 t9 p9 g9 S11 hF11 e11 k11 p11 S14 u14 kk14 z14 hF14 e14 k14 x14 w14)
    · show zEv d 151 228 [.ref 1592, .int 16, .int (Int32.ofNat p), .int (Int32.ofNat deep), .int 2, .int (Int32.ofNat i9), .retAddr 0, .retAddr 0, .retAddr 0] [] S12 post
      refine zv_c1 ht rfl rfl (zv_c1 ht rfl rfl (zv_c1 ht rfl rfl ?_))
      refine zv_e1 (x := Int32.ofNat (deep + 1)) ht rfl rfl (zi_addE (a := deep) (b := 1) rfl rfl) ?_
      refine zv_cl ht rfl rfl rfl rfl (by omega) (Nat.le_of_ble_eq_true rfl) (m_fragX (S := S12) hF12 (by omega) x12 ?_)
      show zEv d 151 235 [.ref 1592, .int 16, .int (Int32.ofNat p), .int (Int32.ofNat deep), .int 2, .int (Int32.ofNat i9), .retAddr 0, .retAddr 0, .retAddr 0] [.int (-1)] S12 post
      refine zv_c2 (L' := [.ref 1592, .int 16, .int (Int32.ofNat p), .int (Int32.ofNat deep), .int 2, .int (Int32.ofNat i9), .int (-1), .retAddr 0, .retAddr 0]) ht rfl rfl ?_
      refine zv_c1 ht rfl rfl ?_
      refine zv_c2 (L' := [.ref 1592, .int 16, .int (Int32.ofNat p), .int (Int32.ofNat deep), .int 2, .int (Int32.ofNat i9), .int (-1), .int (-1), .retAddr 0]) ht rfl rfl ?_
      refine zv_c1 ht rfl rfl (zv_c1 ht rfl rfl ?_)
      refine zv_br ht rfl rfl rfl (fun _ => ?_) (fun h => absurd (by decide) h)
      refine zv_c1 ht rfl rfl (zv_c1 ht rfl rfl ?_)
      refine zv_cl ht rfl rfl rfl rfl (by omega) (Nat.le_of_ble_eq_true rfl) (m_wantX (S := S12) (w := 41) hF12 (by omega) x12 (by omega) ?_)
      show zEv d 151 267 [.ref 1592, .int 16, .int (Int32.ofNat p), .int (Int32.ofNat deep), .int 2, .int (Int32.ofNat i9), .int (-1), .int (-1), .retAddr 0] [] S12 post
      refine zv_c1 ht rfl rfl ?_
      have C31 : ∀ (pst30 : Outcome × zS → Prop), (pst30 (.returned (some (.int 0)), S12)) → zCall (d - 1) 125 [.ref 1592] S12 pst30 := by
        intro pst30 k33
        have ht32 : ztab 125 = ztb125 := rfl
        show zEv (d - 1) 125 0 [.ref 1592] [] S12 pst30
        refine zv_c1 ht32 rfl rfl ?_
        refine zv_e1 (x := 1) ht32 rfl rfl x12.1 ?_
        refine zv_br ht32 rfl rfl rfl (fun _ => ?_) (fun h => absurd (by decide) h)
        refine zv_c1 ht32 rfl rfl ?_
        exact zv_rc ht32 rfl rfl rfl rfl (by decide) k33
      refine zv_cl ht rfl rfl rfl rfl (by omega) (Nat.le_of_ble_eq_true rfl) (C31 _ ?_)
      show zEv d 151 271 [.ref 1592, .int 16, .int (Int32.ofNat p), .int (Int32.ofNat deep), .int 2, .int (Int32.ofNat i9), .int (-1), .int (-1), .retAddr 0] [.int 0] S12 post
      refine zv_br ht rfl rfl rfl (fun h => absurd h (by decide)) (fun _ => ?_)
      refine zv_c1 ht rfl rfl ?_
      exact zv_rt ht rfl rfl rfl rfl (h4 S9 y9 i9 at9 rd9 nx9 hF9 e9 k9 t9 p9 g9 S12 hF12 e12 k12 x12)
  · show zEv d 151 220 [.ref 1592, .int 16, .int (Int32.ofNat p), .int (Int32.ofNat deep), .int 2, .retAddr 0, .retAddr 0, .retAddr 0, .retAddr 0] [.int u10] S10 post
    refine zv_c2 (L' := [.ref 1592, .int 16, .int (Int32.ofNat p), .int (Int32.ofNat deep), .int 2, .int u10, .retAddr 0, .retAddr 0, .retAddr 0]) ht rfl rfl ?_
    refine zv_c1 ht rfl rfl (zv_c1 ht rfl rfl ?_)
    refine zv_cl ht rfl rfl rfl rfl (by omega) (Nat.le_of_ble_eq_true rfl) (m_wantX (S := S10) (w := 44) hF10 (by omega) x10 (by omega) ?_)
    show zEv d 151 228 [.ref 1592, .int 16, .int (Int32.ofNat p), .int (Int32.ofNat deep), .int 2, .int u10, .retAddr 0, .retAddr 0, .retAddr 0] [] S10 post
    refine zv_c1 ht rfl rfl (zv_c1 ht rfl rfl (zv_c1 ht rfl rfl ?_))
    refine zv_e1 (x := Int32.ofNat (deep + 1)) ht rfl rfl (zi_addE (a := deep) (b := 1) rfl rfl) ?_
    refine zv_cl ht rfl rfl rfl rfl (by omega) (Nat.le_of_ble_eq_true rfl) (m_fragX (S := S10) hF10 (by omega) x10 ?_)
    show zEv d 151 235 [.ref 1592, .int 16, .int (Int32.ofNat p), .int (Int32.ofNat deep), .int 2, .int u10, .retAddr 0, .retAddr 0, .retAddr 0] [.int (-1)] S10 post
    refine zv_c2 (L' := [.ref 1592, .int 16, .int (Int32.ofNat p), .int (Int32.ofNat deep), .int 2, .int u10, .int (-1), .retAddr 0, .retAddr 0]) ht rfl rfl ?_
    refine zv_c1 ht rfl rfl ?_
    refine zv_c2 (L' := [.ref 1592, .int 16, .int (Int32.ofNat p), .int (Int32.ofNat deep), .int 2, .int u10, .int (-1), .int (-1), .retAddr 0]) ht rfl rfl ?_
    refine zv_c1 ht rfl rfl (zv_c1 ht rfl rfl ?_)
    refine zv_br ht rfl rfl rfl (fun _ => ?_) (fun h => absurd (by decide) h)
    refine zv_c1 ht rfl rfl (zv_c1 ht rfl rfl ?_)
    refine zv_cl ht rfl rfl rfl rfl (by omega) (Nat.le_of_ble_eq_true rfl) (m_wantX (S := S10) (w := 41) hF10 (by omega) x10 (by omega) ?_)
    show zEv d 151 267 [.ref 1592, .int 16, .int (Int32.ofNat p), .int (Int32.ofNat deep), .int 2, .int u10, .int (-1), .int (-1), .retAddr 0] [] S10 post
    refine zv_c1 ht rfl rfl ?_
    have C35 : ∀ (pst34 : Outcome × zS → Prop), (pst34 (.returned (some (.int 0)), S10)) → zCall (d - 1) 125 [.ref 1592] S10 pst34 := by
      intro pst34 k38
      have ht36 : ztab 125 = ztb125 := rfl
      show zEv (d - 1) 125 0 [.ref 1592] [] S10 pst34
      refine zv_c1 ht36 rfl rfl ?_
      refine zv_e1 (x := Int32.ofNat kk10) ht36 rfl rfl x10.1 ?_
      refine zv_br ht36 rfl rfl rfl (fun b37 => ?_) (fun b37 => (show False from by have hq := b37; have hz : kk10 = 0 := (zi_eqE (a := kk10) (b := 0) rfl rfl (by omega) (by omega)).mp (Classical.not_not.mp hq); omega).elim)
      refine zv_c1 ht36 rfl rfl ?_
      exact zv_rc ht36 rfl rfl rfl rfl (by decide) k38
    refine zv_cl ht rfl rfl rfl rfl (by omega) (Nat.le_of_ble_eq_true rfl) (C35 _ ?_)
    show zEv d 151 271 [.ref 1592, .int 16, .int (Int32.ofNat p), .int (Int32.ofNat deep), .int 2, .int u10, .int (-1), .int (-1), .retAddr 0] [.int 0] S10 post
    refine zv_br ht rfl rfl rfl (fun h => absurd h (by decide)) (fun _ => ?_)
    refine zv_c1 ht rfl rfl ?_
    exact zv_rt ht rfl rfl rfl rfl (h5 S10 u10 kk10 z10 hF10 e10 k10 x10 w10)

theorem ib_102 {d : Nat} {S : zS} (hF : zFin true S) (hd : 3 ≤ d) {tp : Nat → Nat} {sz at0 rd nx wt B : Nat} {rec : Nat → Nat → Nat → pE (zNd × Nat × Nat)} (p deep : Nat)  (hP : mP tp sz S at0 rd nx wt) (hp : p ≤ 300) (hdp : deep < 2000) (hrd : rd ≤ 80) (hs0 : sz ≤ 300) (ha0 : at0 ≤ sz) (hB : nx + 2 * (sz - at0) + 3 ≤ B) (hB3 : B ≤ 3000) (hwt : wt + (sz - at0) ≤ 2000) (hR : mRd tp sz B (d - 1) (deep + 1) rec) {post : Outcome × zS → Prop} (h1 : ∀ S9 : zS, ∀ y9 : zNd, ∀ i9 : Nat, ∀ at9 : Nat, ∀ rd9 : Nat, ∀ nx9 : Nat, (zFin true S9) → (rec (deep + 1) at0 rd = .ok (y9, at9, rd9)) → (mFr B nx wt S S9) → (mT true S9 nx nx9 y9 i9) → (mP tp sz S9 at9 rd9 nx9 wt) → (at0 < at9 ∧ at9 ≤ sz ∧ nx9 ≤ nx + 2 * (at9 - at0) ∧ rd9 ≤ 80 ∧ nx < nx9 ∧ i9 < 3000) → ∀ S11 : zS, (zFin true S11) → (pWant tp sz 44 at9 = .ok (at9 + 1)) → (mFr B nx9 wt S9 S11) → (mP tp sz S11 (at9 + 1) rd9 nx9 wt) → ∀ S13 : zS, ∀ y13 : zNd, ∀ i13 : Nat, ∀ at13 : Nat, ∀ rd13 : Nat, ∀ nx13 : Nat, (zFin true S13) → (rec (deep + 1) (at9 + 1) rd9 = .ok (y13, at13, rd13)) → (mFr B nx9 wt S11 S13) → (mT true S13 nx9 nx13 y13 i13) → (mP tp sz S13 at13 rd13 nx13 wt) → ((at9 + 1) < at13 ∧ at13 ≤ sz ∧ nx13 ≤ nx9 + 2 * (at13 - (at9 + 1)) ∧ rd13 ≤ 80 ∧ nx9 < nx13 ∧ i13 < 3000) → ∀ S15 : zS, (zFin true S15) → (pWant tp sz 41 at13 = .ok (at13 + 1)) → (mFr B nx13 wt S13 S15) → (mP tp sz S15 (at13 + 1) rd13 nx13 wt) → zCall (d - 1) 133 [.ref 1592, .int 10, .int 0, .int (Int32.ofNat p)] S15 (zAf d 151 291 [.ref 1592, .int 102, .int (Int32.ofNat p), .int (Int32.ofNat deep), .int 2, .int (Int32.ofNat i9), .int (Int32.ofNat i13), .int (-1), .retAddr 0] [] post)) (h2 : ∀ S9 : zS, ∀ y9 : zNd, ∀ i9 : Nat, ∀ at9 : Nat, ∀ rd9 : Nat, ∀ nx9 : Nat, (zFin true S9) → (rec (deep + 1) at0 rd = .ok (y9, at9, rd9)) → (mFr B nx wt S S9) → (mT true S9 nx nx9 y9 i9) → (mP tp sz S9 at9 rd9 nx9 wt) → (at0 < at9 ∧ at9 ≤ sz ∧ nx9 ≤ nx + 2 * (at9 - at0) ∧ rd9 ≤ 80 ∧ nx < nx9 ∧ i9 < 3000) → ∀ S11 : zS, (zFin true S11) → (pWant tp sz 44 at9 = .ok (at9 + 1)) → (mFr B nx9 wt S9 S11) → (mP tp sz S11 (at9 + 1) rd9 nx9 wt) → ∀ S13 : zS, ∀ y13 : zNd, ∀ i13 : Nat, ∀ at13 : Nat, ∀ rd13 : Nat, ∀ nx13 : Nat, (zFin true S13) → (rec (deep + 1) (at9 + 1) rd9 = .ok (y13, at13, rd13)) → (mFr B nx9 wt S11 S13) → (mT true S13 nx9 nx13 y13 i13) → (mP tp sz S13 at13 rd13 nx13 wt) → ((at9 + 1) < at13 ∧ at13 ≤ sz ∧ nx13 ≤ nx9 + 2 * (at13 - (at9 + 1)) ∧ rd13 ≤ 80 ∧ nx9 < nx13 ∧ i13 < 3000) → ∀ S16 : zS, (zFin true S16) → (pWant tp sz 41 at13 = .error (1, at13)) → (mFr B nx13 wt S13 S16) → (mX S16 1 at13) → post (.returned (some (.int (-1))), S16)) (h3 : ∀ S9 : zS, ∀ y9 : zNd, ∀ i9 : Nat, ∀ at9 : Nat, ∀ rd9 : Nat, ∀ nx9 : Nat, (zFin true S9) → (rec (deep + 1) at0 rd = .ok (y9, at9, rd9)) → (mFr B nx wt S S9) → (mT true S9 nx nx9 y9 i9) → (mP tp sz S9 at9 rd9 nx9 wt) → (at0 < at9 ∧ at9 ≤ sz ∧ nx9 ≤ nx + 2 * (at9 - at0) ∧ rd9 ≤ 80 ∧ nx < nx9 ∧ i9 < 3000) → ∀ S11 : zS, (zFin true S11) → (pWant tp sz 44 at9 = .ok (at9 + 1)) → (mFr B nx9 wt S9 S11) → (mP tp sz S11 (at9 + 1) rd9 nx9 wt) → ∀ S14 : zS, ∀ u14 : Int32, ∀ kk14 : Nat, ∀ z14 : Nat, (zFin true S14) → (rec (deep + 1) (at9 + 1) rd9 = .error (kk14, z14)) → (mFr B nx9 wt S11 S14) → (mX S14 kk14 z14) → (0 < kk14 ∧ kk14 < 4) → post (.returned (some (.int (-1))), S14)) (h4 : ∀ S9 : zS, ∀ y9 : zNd, ∀ i9 : Nat, ∀ at9 : Nat, ∀ rd9 : Nat, ∀ nx9 : Nat, (zFin true S9) → (rec (deep + 1) at0 rd = .ok (y9, at9, rd9)) → (mFr B nx wt S S9) → (mT true S9 nx nx9 y9 i9) → (mP tp sz S9 at9 rd9 nx9 wt) → (at0 < at9 ∧ at9 ≤ sz ∧ nx9 ≤ nx + 2 * (at9 - at0) ∧ rd9 ≤ 80 ∧ nx < nx9 ∧ i9 < 3000) → ∀ S12 : zS, (zFin true S12) → (pWant tp sz 44 at9 = .error (1, at9)) → (mFr B nx9 wt S9 S12) → (mX S12 1 at9) → post (.returned (some (.int (-1))), S12)) (h5 : ∀ S10 : zS, ∀ u10 : Int32, ∀ kk10 : Nat, ∀ z10 : Nat, (zFin true S10) → (rec (deep + 1) at0 rd = .error (kk10, z10)) → (mFr B nx wt S S10) → (mX S10 kk10 z10) → (0 < kk10 ∧ kk10 < 4) → post (.returned (some (.int (-1))), S10)) : zCall d 151 [.ref 1592, .int 102, .int (Int32.ofNat p), .int (Int32.ofNat deep)] S post := by
  have ht : ztab 151 = ztb151 := rfl
  show zEv d 151 0 [.ref 1592, .int 102, .int (Int32.ofNat p), .int (Int32.ofNat deep), .retAddr 0, .retAddr 0, .retAddr 0, .retAddr 0, .retAddr 0] [] S post
  refine zv_c1 ht rfl rfl ?_
  have C2 : ∀ (pst1 : Outcome × zS → Prop), (pst1 (.returned (some (.int 1)), S)) → zCall (d - 1) 125 [.ref 1592] S pst1 := by
    intro pst1 k4
    have ht3 : ztab 125 = ztb125 := rfl
    show zEv (d - 1) 125 0 [.ref 1592] [] S pst1
    refine zv_c1 ht3 rfl rfl ?_
    refine zv_e1 (x := 0) ht3 rfl rfl hP.1.2.2.1 ?_
    refine zv_br ht3 rfl rfl rfl (fun h => absurd h (by decide)) (fun _ => ?_)
    refine zv_c1 ht3 rfl rfl (zv_c1 ht3 rfl rfl ?_)
    exact zv_rc ht3 rfl rfl rfl rfl (by decide) k4
  refine zv_cl ht rfl rfl rfl rfl (by omega) (Nat.le_of_ble_eq_true rfl) (C2 _ ?_)
  show zEv d 151 4 [.ref 1592, .int 102, .int (Int32.ofNat p), .int (Int32.ofNat deep), .retAddr 0, .retAddr 0, .retAddr 0, .retAddr 0, .retAddr 0] [.int 1] S post
  refine zv_br ht rfl rfl rfl (fun _ => ?_) (fun h => absurd (by decide) h)
  refine zv_c1 ht rfl rfl (zv_c1 ht rfl rfl ?_)
  refine zv_br ht rfl rfl rfl (fun h => absurd h (by decide)) (fun _ => ?_)
  refine zv_c1 ht rfl rfl (zv_c1 ht rfl rfl ?_)
  refine zv_br ht rfl rfl rfl (fun h => absurd h (by decide)) (fun _ => ?_)
  refine zv_c1 ht rfl rfl (zv_c1 ht rfl rfl ?_)
  refine zv_br ht rfl rfl rfl (fun h => absurd h (by decide)) (fun _ => ?_)
  refine zv_c1 ht rfl rfl (zv_c1 ht rfl rfl ?_)
  refine zv_br ht rfl rfl rfl (fun _ => ?_) (fun h => absurd (by decide) h)
  refine zv_c1 ht rfl rfl (zv_c1 ht rfl rfl ?_)
  refine zv_br ht rfl rfl rfl (fun h => absurd h (by decide)) (fun _ => ?_)
  refine zv_c1 ht rfl rfl (zv_c1 ht rfl rfl ?_)
  refine zv_br ht rfl rfl rfl (fun h => absurd h (by decide)) (fun _ => ?_)
  refine zv_c1 ht rfl rfl (zv_c1 ht rfl rfl (zv_c1 ht rfl rfl ?_))
  have C6 : ∀ (pst5 : Outcome × zS → Prop), (pst5 (.returned (some (.int 0)), S)) → zCall (d - 1) 102 [.int 102, .int 6, .int 9] S pst5 := by
    intro pst5 k8
    have ht7 : ztab 102 = ztb102 := rfl
    show zEv (d - 1) 102 0 [.int 102, .int 6, .int 9] [] S pst5
    refine zv_c1 ht7 rfl rfl (zv_c1 ht7 rfl rfl ?_)
    refine zv_br ht7 rfl rfl rfl (fun h => absurd h (by decide)) (fun _ => ?_)
    refine zv_c1 ht7 rfl rfl (zv_c1 ht7 rfl rfl ?_)
    refine zv_br ht7 rfl rfl rfl (fun _ => ?_) (fun h => absurd (by decide) h)
    refine zv_c1 ht7 rfl rfl ?_
    exact zv_rc ht7 rfl rfl rfl rfl (by decide) k8
  refine zv_cl ht rfl rfl rfl rfl (by omega) (Nat.le_of_ble_eq_true rfl) (C6 _ ?_)
  show zEv d 151 124 [.ref 1592, .int 102, .int (Int32.ofNat p), .int (Int32.ofNat deep), .retAddr 0, .retAddr 0, .retAddr 0, .retAddr 0, .retAddr 0] [.int 0] S post
  refine zv_br ht rfl rfl rfl (fun _ => ?_) (fun h => absurd (by decide) h)
  refine zv_c1 ht rfl rfl (zv_c1 ht rfl rfl ?_)
  refine zv_br ht rfl rfl rfl (fun h => absurd h (by decide)) (fun _ => ?_)
  refine zv_c1 ht rfl rfl (zv_c1 ht rfl rfl ?_)
  refine zv_br ht rfl rfl rfl (fun _ => ?_) (fun h => absurd (by decide) h)
  refine zv_c1 ht rfl rfl (zv_c1 ht rfl rfl ?_)
  refine zv_br ht rfl rfl rfl (fun _ => ?_) (fun h => absurd (by decide) h)
  refine zv_c1 ht rfl rfl ?_
  refine zv_c2 (L' := [.ref 1592, .int 102, .int (Int32.ofNat p), .int (Int32.ofNat deep), .int 2, .retAddr 0, .retAddr 0, .retAddr 0, .retAddr 0]) ht rfl rfl ?_
  refine zv_c1 ht rfl rfl (zv_c1 ht rfl rfl (zv_c1 ht rfl rfl ?_))
  refine zv_e1 (x := Int32.ofNat (deep + 1)) ht rfl rfl (zi_addE (a := deep) (b := 1) rfl rfl) ?_
  refine zv_cl ht rfl rfl rfl rfl (by omega) (Nat.le_of_ble_eq_true rfl) (hR (S := S) (nx := nx) (wt := wt) hF hP (by omega) (by omega) (by omega) (fun S9 y9 i9 at9 rd9 nx9 hF9 e9 k9 t9 p9 g9 => ?_) (fun S10 u10 kk10 z10 hF10 e10 k10 x10 w10 => ?_))
  · show zEv d 151 220 [.ref 1592, .int 102, .int (Int32.ofNat p), .int (Int32.ofNat deep), .int 2, .retAddr 0, .retAddr 0, .retAddr 0, .retAddr 0] [.int (Int32.ofNat i9)] S9 post
    refine zv_c2 (L' := [.ref 1592, .int 102, .int (Int32.ofNat p), .int (Int32.ofNat deep), .int 2, .int (Int32.ofNat i9), .retAddr 0, .retAddr 0, .retAddr 0]) ht rfl rfl ?_
    refine zv_c1 ht rfl rfl (zv_c1 ht rfl rfl ?_)
    refine zv_cl ht rfl rfl rfl rfl (by omega) (Nat.le_of_ble_eq_true rfl) (m_want (S := S9) (tp := tp) (sz := sz) (B := B) (w := 44) hF9 (by omega) p9 (by omega) (by omega) (fun S11 hF11 e11 k11 p11 => ?_) (fun S12 hF12 e12 k12 x12 => ?_))
    · show zEv d 151 228 [.ref 1592, .int 102, .int (Int32.ofNat p), .int (Int32.ofNat deep), .int 2, .int (Int32.ofNat i9), .retAddr 0, .retAddr 0, .retAddr 0] [] S11 post
      refine zv_c1 ht rfl rfl (zv_c1 ht rfl rfl (zv_c1 ht rfl rfl ?_))
      refine zv_e1 (x := Int32.ofNat (deep + 1)) ht rfl rfl (zi_addE (a := deep) (b := 1) rfl rfl) ?_
      refine zv_cl ht rfl rfl rfl rfl (by omega) (Nat.le_of_ble_eq_true rfl) (hR (S := S11) (nx := nx9) (wt := wt) hF11 p11 (by omega) (by omega) (by omega) (fun S13 y13 i13 at13 rd13 nx13 hF13 e13 k13 t13 p13 g13 => ?_) (fun S14 u14 kk14 z14 hF14 e14 k14 x14 w14 => ?_))
      · show zEv d 151 235 [.ref 1592, .int 102, .int (Int32.ofNat p), .int (Int32.ofNat deep), .int 2, .int (Int32.ofNat i9), .retAddr 0, .retAddr 0, .retAddr 0] [.int (Int32.ofNat i13)] S13 post
        refine zv_c2 (L' := [.ref 1592, .int 102, .int (Int32.ofNat p), .int (Int32.ofNat deep), .int 2, .int (Int32.ofNat i9), .int (Int32.ofNat i13), .retAddr 0, .retAddr 0]) ht rfl rfl ?_
        refine zv_c1 ht rfl rfl ?_
        refine zv_c2 (L' := [.ref 1592, .int 102, .int (Int32.ofNat p), .int (Int32.ofNat deep), .int 2, .int (Int32.ofNat i9), .int (Int32.ofNat i13), .int (-1), .retAddr 0]) ht rfl rfl ?_
        refine zv_c1 ht rfl rfl (zv_c1 ht rfl rfl ?_)
        refine zv_br ht rfl rfl rfl (fun _ => ?_) (fun h => absurd (by decide) h)
        refine zv_c1 ht rfl rfl (zv_c1 ht rfl rfl ?_)
        refine zv_cl ht rfl rfl rfl rfl (by omega) (Nat.le_of_ble_eq_true rfl) (m_want (S := S13) (tp := tp) (sz := sz) (B := B) (w := 41) hF13 (by omega) p13 (by omega) (by omega) (fun S15 hF15 e15 k15 p15 => ?_) (fun S16 hF16 e16 k16 x16 => ?_))
        · show zEv d 151 267 [.ref 1592, .int 102, .int (Int32.ofNat p), .int (Int32.ofNat deep), .int 2, .int (Int32.ofNat i9), .int (Int32.ofNat i13), .int (-1), .retAddr 0] [] S15 post
          refine zv_c1 ht rfl rfl ?_
          have C18 : ∀ (pst17 : Outcome × zS → Prop), (pst17 (.returned (some (.int 1)), S15)) → zCall (d - 1) 125 [.ref 1592] S15 pst17 := by
            intro pst17 k20
            have ht19 : ztab 125 = ztb125 := rfl
            show zEv (d - 1) 125 0 [.ref 1592] [] S15 pst17
            refine zv_c1 ht19 rfl rfl ?_
            refine zv_e1 (x := 0) ht19 rfl rfl p15.1.2.2.1 ?_
            refine zv_br ht19 rfl rfl rfl (fun h => absurd h (by decide)) (fun _ => ?_)
            refine zv_c1 ht19 rfl rfl (zv_c1 ht19 rfl rfl ?_)
            exact zv_rc ht19 rfl rfl rfl rfl (by decide) k20
          refine zv_cl ht rfl rfl rfl rfl (by omega) (Nat.le_of_ble_eq_true rfl) (C18 _ ?_)
          show zEv d 151 271 [.ref 1592, .int 102, .int (Int32.ofNat p), .int (Int32.ofNat deep), .int 2, .int (Int32.ofNat i9), .int (Int32.ofNat i13), .int (-1), .retAddr 0] [.int 1] S15 post
          refine zv_br ht rfl rfl rfl (fun _ => ?_) (fun h => absurd (by decide) h)
          refine zv_c1 ht rfl rfl (zv_c1 ht rfl rfl (zv_c1 ht rfl rfl ?_))
          refine zv_br ht rfl rfl rfl (fun h => absurd h (by decide)) (fun _ => ?_)
          refine zv_c1 ht rfl rfl (zv_c1 ht rfl rfl (zv_c1 ht rfl rfl (zv_c1 ht rfl rfl ?_)))
          refine zv_cl ht rfl rfl rfl rfl (by omega) (Nat.le_of_ble_eq_true rfl) (h1 S9 y9 i9 at9 rd9 nx9 hF9 e9 k9 t9 p9 g9 S11 hF11 e11 k11 p11 S13 y13 i13 at13 rd13 nx13 hF13 e13 k13 t13 p13 g13 S15 hF15 e15 k15 p15)
        · show zEv d 151 267 [.ref 1592, .int 102, .int (Int32.ofNat p), .int (Int32.ofNat deep), .int 2, .int (Int32.ofNat i9), .int (Int32.ofNat i13), .int (-1), .retAddr 0] [] S16 post
          refine zv_c1 ht rfl rfl ?_
          have C22 : ∀ (pst21 : Outcome × zS → Prop), (pst21 (.returned (some (.int 0)), S16)) → zCall (d - 1) 125 [.ref 1592] S16 pst21 := by
            intro pst21 k24
            have ht23 : ztab 125 = ztb125 := rfl
            show zEv (d - 1) 125 0 [.ref 1592] [] S16 pst21
            refine zv_c1 ht23 rfl rfl ?_
            refine zv_e1 (x := 1) ht23 rfl rfl x16.1 ?_
            refine zv_br ht23 rfl rfl rfl (fun _ => ?_) (fun h => absurd (by decide) h)
            refine zv_c1 ht23 rfl rfl ?_
            exact zv_rc ht23 rfl rfl rfl rfl (by decide) k24
          refine zv_cl ht rfl rfl rfl rfl (by omega) (Nat.le_of_ble_eq_true rfl) (C22 _ ?_)
          show zEv d 151 271 [.ref 1592, .int 102, .int (Int32.ofNat p), .int (Int32.ofNat deep), .int 2, .int (Int32.ofNat i9), .int (Int32.ofNat i13), .int (-1), .retAddr 0] [.int 0] S16 post
          refine zv_br ht rfl rfl rfl (fun h => absurd h (by decide)) (fun _ => ?_)
          refine zv_c1 ht rfl rfl ?_
          exact zv_rt ht rfl rfl rfl rfl (h2 S9 y9 i9 at9 rd9 nx9 hF9 e9 k9 t9 p9 g9 S11 hF11 e11 k11 p11 S13 y13 i13 at13 rd13 nx13 hF13 e13 k13 t13 p13 g13 S16 hF16 e16 k16 x16)
      · show zEv d 151 235 [.ref 1592, .int 102, .int (Int32.ofNat p), .int (Int32.ofNat deep), .int 2, .int (Int32.ofNat i9), .retAddr 0, .retAddr 0, .retAddr 0] [.int u14] S14 post
        refine zv_c2 (L' := [.ref 1592, .int 102, .int (Int32.ofNat p), .int (Int32.ofNat deep), .int 2, .int (Int32.ofNat i9), .int u14, .retAddr 0, .retAddr 0]) ht rfl rfl ?_
        refine zv_c1 ht rfl rfl ?_
        refine zv_c2 (L' := [.ref 1592, .int 102, .int (Int32.ofNat p), .int (Int32.ofNat deep), .int 2, .int (Int32.ofNat i9), .int u14, .int (-1), .retAddr 0]) ht rfl rfl ?_
        refine zv_c1 ht rfl rfl (zv_c1 ht rfl rfl ?_)
        refine zv_br ht rfl rfl rfl (fun _ => ?_) (fun h => absurd (by decide) h)
        refine zv_c1 ht rfl rfl (zv_c1 ht rfl rfl ?_)
        refine zv_cl ht rfl rfl rfl rfl (by omega) (Nat.le_of_ble_eq_true rfl) (m_wantX (S := S14) (w := 41) hF14 (by omega) x14 (by omega) ?_)
        show zEv d 151 267 [.ref 1592, .int 102, .int (Int32.ofNat p), .int (Int32.ofNat deep), .int 2, .int (Int32.ofNat i9), .int u14, .int (-1), .retAddr 0] [] S14 post
        refine zv_c1 ht rfl rfl ?_
        have C26 : ∀ (pst25 : Outcome × zS → Prop), (pst25 (.returned (some (.int 0)), S14)) → zCall (d - 1) 125 [.ref 1592] S14 pst25 := by
          intro pst25 k29
          have ht27 : ztab 125 = ztb125 := rfl
          show zEv (d - 1) 125 0 [.ref 1592] [] S14 pst25
          refine zv_c1 ht27 rfl rfl ?_
          refine zv_e1 (x := Int32.ofNat kk14) ht27 rfl rfl x14.1 ?_
          refine zv_br ht27 rfl rfl rfl (fun b28 => ?_) (fun b28 => (show False from by have hq := b28; have hz : kk14 = 0 := (zi_eqE (a := kk14) (b := 0) rfl rfl (by omega) (by omega)).mp (Classical.not_not.mp hq); omega).elim)
          refine zv_c1 ht27 rfl rfl ?_
          exact zv_rc ht27 rfl rfl rfl rfl (by decide) k29
        refine zv_cl ht rfl rfl rfl rfl (by omega) (Nat.le_of_ble_eq_true rfl) (C26 _ ?_)
        show zEv d 151 271 [.ref 1592, .int 102, .int (Int32.ofNat p), .int (Int32.ofNat deep), .int 2, .int (Int32.ofNat i9), .int u14, .int (-1), .retAddr 0] [.int 0] S14 post
        refine zv_br ht rfl rfl rfl (fun h => absurd h (by decide)) (fun _ => ?_)
        refine zv_c1 ht rfl rfl ?_
        exact zv_rt ht rfl rfl rfl rfl (h3 S9 y9 i9 at9 rd9 nx9 hF9 e9 k9 t9 p9 g9 S11 hF11 e11 k11 p11 S14 u14 kk14 z14 hF14 e14 k14 x14 w14)
    · show zEv d 151 228 [.ref 1592, .int 102, .int (Int32.ofNat p), .int (Int32.ofNat deep), .int 2, .int (Int32.ofNat i9), .retAddr 0, .retAddr 0, .retAddr 0] [] S12 post
      refine zv_c1 ht rfl rfl (zv_c1 ht rfl rfl (zv_c1 ht rfl rfl ?_))
      refine zv_e1 (x := Int32.ofNat (deep + 1)) ht rfl rfl (zi_addE (a := deep) (b := 1) rfl rfl) ?_
      refine zv_cl ht rfl rfl rfl rfl (by omega) (Nat.le_of_ble_eq_true rfl) (m_fragX (S := S12) hF12 (by omega) x12 ?_)
      show zEv d 151 235 [.ref 1592, .int 102, .int (Int32.ofNat p), .int (Int32.ofNat deep), .int 2, .int (Int32.ofNat i9), .retAddr 0, .retAddr 0, .retAddr 0] [.int (-1)] S12 post
      refine zv_c2 (L' := [.ref 1592, .int 102, .int (Int32.ofNat p), .int (Int32.ofNat deep), .int 2, .int (Int32.ofNat i9), .int (-1), .retAddr 0, .retAddr 0]) ht rfl rfl ?_
      refine zv_c1 ht rfl rfl ?_
      refine zv_c2 (L' := [.ref 1592, .int 102, .int (Int32.ofNat p), .int (Int32.ofNat deep), .int 2, .int (Int32.ofNat i9), .int (-1), .int (-1), .retAddr 0]) ht rfl rfl ?_
      refine zv_c1 ht rfl rfl (zv_c1 ht rfl rfl ?_)
      refine zv_br ht rfl rfl rfl (fun _ => ?_) (fun h => absurd (by decide) h)
      refine zv_c1 ht rfl rfl (zv_c1 ht rfl rfl ?_)
      refine zv_cl ht rfl rfl rfl rfl (by omega) (Nat.le_of_ble_eq_true rfl) (m_wantX (S := S12) (w := 41) hF12 (by omega) x12 (by omega) ?_)
      show zEv d 151 267 [.ref 1592, .int 102, .int (Int32.ofNat p), .int (Int32.ofNat deep), .int 2, .int (Int32.ofNat i9), .int (-1), .int (-1), .retAddr 0] [] S12 post
      refine zv_c1 ht rfl rfl ?_
      have C31 : ∀ (pst30 : Outcome × zS → Prop), (pst30 (.returned (some (.int 0)), S12)) → zCall (d - 1) 125 [.ref 1592] S12 pst30 := by
        intro pst30 k33
        have ht32 : ztab 125 = ztb125 := rfl
        show zEv (d - 1) 125 0 [.ref 1592] [] S12 pst30
        refine zv_c1 ht32 rfl rfl ?_
        refine zv_e1 (x := 1) ht32 rfl rfl x12.1 ?_
        refine zv_br ht32 rfl rfl rfl (fun _ => ?_) (fun h => absurd (by decide) h)
        refine zv_c1 ht32 rfl rfl ?_
        exact zv_rc ht32 rfl rfl rfl rfl (by decide) k33
      refine zv_cl ht rfl rfl rfl rfl (by omega) (Nat.le_of_ble_eq_true rfl) (C31 _ ?_)
      show zEv d 151 271 [.ref 1592, .int 102, .int (Int32.ofNat p), .int (Int32.ofNat deep), .int 2, .int (Int32.ofNat i9), .int (-1), .int (-1), .retAddr 0] [.int 0] S12 post
      refine zv_br ht rfl rfl rfl (fun h => absurd h (by decide)) (fun _ => ?_)
      refine zv_c1 ht rfl rfl ?_
      exact zv_rt ht rfl rfl rfl rfl (h4 S9 y9 i9 at9 rd9 nx9 hF9 e9 k9 t9 p9 g9 S12 hF12 e12 k12 x12)
  · show zEv d 151 220 [.ref 1592, .int 102, .int (Int32.ofNat p), .int (Int32.ofNat deep), .int 2, .retAddr 0, .retAddr 0, .retAddr 0, .retAddr 0] [.int u10] S10 post
    refine zv_c2 (L' := [.ref 1592, .int 102, .int (Int32.ofNat p), .int (Int32.ofNat deep), .int 2, .int u10, .retAddr 0, .retAddr 0, .retAddr 0]) ht rfl rfl ?_
    refine zv_c1 ht rfl rfl (zv_c1 ht rfl rfl ?_)
    refine zv_cl ht rfl rfl rfl rfl (by omega) (Nat.le_of_ble_eq_true rfl) (m_wantX (S := S10) (w := 44) hF10 (by omega) x10 (by omega) ?_)
    show zEv d 151 228 [.ref 1592, .int 102, .int (Int32.ofNat p), .int (Int32.ofNat deep), .int 2, .int u10, .retAddr 0, .retAddr 0, .retAddr 0] [] S10 post
    refine zv_c1 ht rfl rfl (zv_c1 ht rfl rfl (zv_c1 ht rfl rfl ?_))
    refine zv_e1 (x := Int32.ofNat (deep + 1)) ht rfl rfl (zi_addE (a := deep) (b := 1) rfl rfl) ?_
    refine zv_cl ht rfl rfl rfl rfl (by omega) (Nat.le_of_ble_eq_true rfl) (m_fragX (S := S10) hF10 (by omega) x10 ?_)
    show zEv d 151 235 [.ref 1592, .int 102, .int (Int32.ofNat p), .int (Int32.ofNat deep), .int 2, .int u10, .retAddr 0, .retAddr 0, .retAddr 0] [.int (-1)] S10 post
    refine zv_c2 (L' := [.ref 1592, .int 102, .int (Int32.ofNat p), .int (Int32.ofNat deep), .int 2, .int u10, .int (-1), .retAddr 0, .retAddr 0]) ht rfl rfl ?_
    refine zv_c1 ht rfl rfl ?_
    refine zv_c2 (L' := [.ref 1592, .int 102, .int (Int32.ofNat p), .int (Int32.ofNat deep), .int 2, .int u10, .int (-1), .int (-1), .retAddr 0]) ht rfl rfl ?_
    refine zv_c1 ht rfl rfl (zv_c1 ht rfl rfl ?_)
    refine zv_br ht rfl rfl rfl (fun _ => ?_) (fun h => absurd (by decide) h)
    refine zv_c1 ht rfl rfl (zv_c1 ht rfl rfl ?_)
    refine zv_cl ht rfl rfl rfl rfl (by omega) (Nat.le_of_ble_eq_true rfl) (m_wantX (S := S10) (w := 41) hF10 (by omega) x10 (by omega) ?_)
    show zEv d 151 267 [.ref 1592, .int 102, .int (Int32.ofNat p), .int (Int32.ofNat deep), .int 2, .int u10, .int (-1), .int (-1), .retAddr 0] [] S10 post
    refine zv_c1 ht rfl rfl ?_
    have C35 : ∀ (pst34 : Outcome × zS → Prop), (pst34 (.returned (some (.int 0)), S10)) → zCall (d - 1) 125 [.ref 1592] S10 pst34 := by
      intro pst34 k38
      have ht36 : ztab 125 = ztb125 := rfl
      show zEv (d - 1) 125 0 [.ref 1592] [] S10 pst34
      refine zv_c1 ht36 rfl rfl ?_
      refine zv_e1 (x := Int32.ofNat kk10) ht36 rfl rfl x10.1 ?_
      refine zv_br ht36 rfl rfl rfl (fun b37 => ?_) (fun b37 => (show False from by have hq := b37; have hz : kk10 = 0 := (zi_eqE (a := kk10) (b := 0) rfl rfl (by omega) (by omega)).mp (Classical.not_not.mp hq); omega).elim)
      refine zv_c1 ht36 rfl rfl ?_
      exact zv_rc ht36 rfl rfl rfl rfl (by decide) k38
    refine zv_cl ht rfl rfl rfl rfl (by omega) (Nat.le_of_ble_eq_true rfl) (C35 _ ?_)
    show zEv d 151 271 [.ref 1592, .int 102, .int (Int32.ofNat p), .int (Int32.ofNat deep), .int 2, .int u10, .int (-1), .int (-1), .retAddr 0] [.int 0] S10 post
    refine zv_br ht rfl rfl rfl (fun h => absurd h (by decide)) (fun _ => ?_)
    refine zv_c1 ht rfl rfl ?_
    exact zv_rt ht rfl rfl rfl rfl (h5 S10 u10 kk10 z10 hF10 e10 k10 x10 w10)

theorem ic294_11 {d : Nat} {S : zS} (hF : zFin true S) (hd : 1 ≤ d) (p a b n : Nat)  (hp : p ≤ 300) (ha : a < 3000) (hb : b < 3000) (hn : n < 3000) {post : Outcome × zS → Prop} (h1 : zCall (d - 1) 154 [.ref 1592, .int (Int32.ofNat n), .int (Int32.ofNat a)] S (zAf d 151 320 [.ref 1592, .int 11, .int (Int32.ofNat p), .retAddr 0, .retAddr 0, .int (Int32.ofNat a), .int (Int32.ofNat b), .int (-1), .int (Int32.ofNat n)] [] post)) : zEv d 151 294 [.ref 1592, .int 11, .int (Int32.ofNat p), .retAddr 0, .retAddr 0, .int (Int32.ofNat a), .int (Int32.ofNat b), .int (-1), .retAddr 0] [.int (Int32.ofNat n)] S post := by
  have ht : ztab 151 = ztb151 := rfl
  refine zv_c2 (L' := [.ref 1592, .int 11, .int (Int32.ofNat p), .retAddr 0, .retAddr 0, .int (Int32.ofNat a), .int (Int32.ofNat b), .int (-1), .int (Int32.ofNat n)]) ht rfl rfl ?_
  refine zv_c1 ht rfl rfl (zv_c1 ht rfl rfl ?_)
  refine zv_br ht rfl rfl rfl (fun _ => ?_) (fun h => absurd (by decide) h)
  refine zv_c1 ht rfl rfl (zv_c1 ht rfl rfl (zv_c1 ht rfl rfl ?_))
  refine zv_cl ht rfl rfl rfl rfl (by omega) (Nat.le_of_ble_eq_true rfl) h1

theorem ic294_12 {d : Nat} {S : zS} (hF : zFin true S) (hd : 1 ≤ d) (p a b n : Nat)  (hp : p ≤ 300) (ha : a < 3000) (hb : b < 3000) (hn : n < 3000) {post : Outcome × zS → Prop} (h1 : zCall (d - 1) 154 [.ref 1592, .int (Int32.ofNat n), .int (Int32.ofNat a)] S (zAf d 151 320 [.ref 1592, .int 12, .int (Int32.ofNat p), .retAddr 0, .retAddr 0, .int (Int32.ofNat a), .int (Int32.ofNat b), .int (-1), .int (Int32.ofNat n)] [] post)) : zEv d 151 294 [.ref 1592, .int 12, .int (Int32.ofNat p), .retAddr 0, .retAddr 0, .int (Int32.ofNat a), .int (Int32.ofNat b), .int (-1), .retAddr 0] [.int (Int32.ofNat n)] S post := by
  have ht : ztab 151 = ztb151 := rfl
  refine zv_c2 (L' := [.ref 1592, .int 12, .int (Int32.ofNat p), .retAddr 0, .retAddr 0, .int (Int32.ofNat a), .int (Int32.ofNat b), .int (-1), .int (Int32.ofNat n)]) ht rfl rfl ?_
  refine zv_c1 ht rfl rfl (zv_c1 ht rfl rfl ?_)
  refine zv_br ht rfl rfl rfl (fun _ => ?_) (fun h => absurd (by decide) h)
  refine zv_c1 ht rfl rfl (zv_c1 ht rfl rfl (zv_c1 ht rfl rfl ?_))
  refine zv_cl ht rfl rfl rfl rfl (by omega) (Nat.le_of_ble_eq_true rfl) h1

theorem ic294_13 {d : Nat} {S : zS} (hF : zFin true S) (hd : 1 ≤ d) (p a b n : Nat)  (hp : p ≤ 300) (ha : a < 3000) (hb : b < 3000) (hn : n < 3000) {post : Outcome × zS → Prop} (h1 : zCall (d - 1) 154 [.ref 1592, .int (Int32.ofNat n), .int (Int32.ofNat a)] S (zAf d 151 320 [.ref 1592, .int 13, .int (Int32.ofNat p), .retAddr 0, .retAddr 0, .int (Int32.ofNat a), .int (Int32.ofNat b), .int (-1), .int (Int32.ofNat n)] [] post)) : zEv d 151 294 [.ref 1592, .int 13, .int (Int32.ofNat p), .retAddr 0, .retAddr 0, .int (Int32.ofNat a), .int (Int32.ofNat b), .int (-1), .retAddr 0] [.int (Int32.ofNat n)] S post := by
  have ht : ztab 151 = ztb151 := rfl
  refine zv_c2 (L' := [.ref 1592, .int 13, .int (Int32.ofNat p), .retAddr 0, .retAddr 0, .int (Int32.ofNat a), .int (Int32.ofNat b), .int (-1), .int (Int32.ofNat n)]) ht rfl rfl ?_
  refine zv_c1 ht rfl rfl (zv_c1 ht rfl rfl ?_)
  refine zv_br ht rfl rfl rfl (fun _ => ?_) (fun h => absurd (by decide) h)
  refine zv_c1 ht rfl rfl (zv_c1 ht rfl rfl (zv_c1 ht rfl rfl ?_))
  refine zv_cl ht rfl rfl rfl rfl (by omega) (Nat.le_of_ble_eq_true rfl) h1

theorem ic294_14 {d : Nat} {S : zS} (hF : zFin true S) (hd : 1 ≤ d) (p a b n : Nat)  (hp : p ≤ 300) (ha : a < 3000) (hb : b < 3000) (hn : n < 3000) {post : Outcome × zS → Prop} (h1 : zCall (d - 1) 154 [.ref 1592, .int (Int32.ofNat n), .int (Int32.ofNat a)] S (zAf d 151 320 [.ref 1592, .int 14, .int (Int32.ofNat p), .retAddr 0, .retAddr 0, .int (Int32.ofNat a), .int (Int32.ofNat b), .int (-1), .int (Int32.ofNat n)] [] post)) : zEv d 151 294 [.ref 1592, .int 14, .int (Int32.ofNat p), .retAddr 0, .retAddr 0, .int (Int32.ofNat a), .int (Int32.ofNat b), .int (-1), .retAddr 0] [.int (Int32.ofNat n)] S post := by
  have ht : ztab 151 = ztb151 := rfl
  refine zv_c2 (L' := [.ref 1592, .int 14, .int (Int32.ofNat p), .retAddr 0, .retAddr 0, .int (Int32.ofNat a), .int (Int32.ofNat b), .int (-1), .int (Int32.ofNat n)]) ht rfl rfl ?_
  refine zv_c1 ht rfl rfl (zv_c1 ht rfl rfl ?_)
  refine zv_br ht rfl rfl rfl (fun _ => ?_) (fun h => absurd (by decide) h)
  refine zv_c1 ht rfl rfl (zv_c1 ht rfl rfl (zv_c1 ht rfl rfl ?_))
  refine zv_cl ht rfl rfl rfl rfl (by omega) (Nat.le_of_ble_eq_true rfl) h1

theorem ic294_15 {d : Nat} {S : zS} (hF : zFin true S) (hd : 1 ≤ d) (p a b n : Nat)  (hp : p ≤ 300) (ha : a < 3000) (hb : b < 3000) (hn : n < 3000) {post : Outcome × zS → Prop} (h1 : zCall (d - 1) 154 [.ref 1592, .int (Int32.ofNat n), .int (Int32.ofNat a)] S (zAf d 151 320 [.ref 1592, .int 15, .int (Int32.ofNat p), .retAddr 0, .retAddr 0, .int (Int32.ofNat a), .int (Int32.ofNat b), .int (-1), .int (Int32.ofNat n)] [] post)) : zEv d 151 294 [.ref 1592, .int 15, .int (Int32.ofNat p), .retAddr 0, .retAddr 0, .int (Int32.ofNat a), .int (Int32.ofNat b), .int (-1), .retAddr 0] [.int (Int32.ofNat n)] S post := by
  have ht : ztab 151 = ztb151 := rfl
  refine zv_c2 (L' := [.ref 1592, .int 15, .int (Int32.ofNat p), .retAddr 0, .retAddr 0, .int (Int32.ofNat a), .int (Int32.ofNat b), .int (-1), .int (Int32.ofNat n)]) ht rfl rfl ?_
  refine zv_c1 ht rfl rfl (zv_c1 ht rfl rfl ?_)
  refine zv_br ht rfl rfl rfl (fun _ => ?_) (fun h => absurd (by decide) h)
  refine zv_c1 ht rfl rfl (zv_c1 ht rfl rfl (zv_c1 ht rfl rfl ?_))
  refine zv_cl ht rfl rfl rfl rfl (by omega) (Nat.le_of_ble_eq_true rfl) h1

theorem ic294_16 {d : Nat} {S : zS} (hF : zFin true S) (hd : 1 ≤ d) (p a b n : Nat)  (hp : p ≤ 300) (ha : a < 3000) (hb : b < 3000) (hn : n < 3000) {post : Outcome × zS → Prop} (h1 : zCall (d - 1) 154 [.ref 1592, .int (Int32.ofNat n), .int (Int32.ofNat a)] S (zAf d 151 320 [.ref 1592, .int 16, .int (Int32.ofNat p), .retAddr 0, .retAddr 0, .int (Int32.ofNat a), .int (Int32.ofNat b), .int (-1), .int (Int32.ofNat n)] [] post)) : zEv d 151 294 [.ref 1592, .int 16, .int (Int32.ofNat p), .retAddr 0, .retAddr 0, .int (Int32.ofNat a), .int (Int32.ofNat b), .int (-1), .retAddr 0] [.int (Int32.ofNat n)] S post := by
  have ht : ztab 151 = ztb151 := rfl
  refine zv_c2 (L' := [.ref 1592, .int 16, .int (Int32.ofNat p), .retAddr 0, .retAddr 0, .int (Int32.ofNat a), .int (Int32.ofNat b), .int (-1), .int (Int32.ofNat n)]) ht rfl rfl ?_
  refine zv_c1 ht rfl rfl (zv_c1 ht rfl rfl ?_)
  refine zv_br ht rfl rfl rfl (fun _ => ?_) (fun h => absurd (by decide) h)
  refine zv_c1 ht rfl rfl (zv_c1 ht rfl rfl (zv_c1 ht rfl rfl ?_))
  refine zv_cl ht rfl rfl rfl rfl (by omega) (Nat.le_of_ble_eq_true rfl) h1

theorem ic294_102 {d : Nat} {S : zS} (hF : zFin true S) (hd : 1 ≤ d) (p a b n : Nat)  (hp : p ≤ 300) (ha : a < 3000) (hb : b < 3000) (hn : n < 3000) {post : Outcome × zS → Prop} (h1 : zCall (d - 1) 133 [.ref 1592, .int 0, .int 0, .int (Int32.ofNat p)] S (zAf d 151 307 [.ref 1592, .int 102, .int (Int32.ofNat p), .retAddr 0, .retAddr 0, .int (Int32.ofNat a), .int (Int32.ofNat b), .int (-1), .int (Int32.ofNat n)] [.ref 1592] post)) : zEv d 151 294 [.ref 1592, .int 102, .int (Int32.ofNat p), .retAddr 0, .retAddr 0, .int (Int32.ofNat a), .int (Int32.ofNat b), .int (-1), .retAddr 0] [.int (Int32.ofNat n)] S post := by
  have ht : ztab 151 = ztb151 := rfl
  refine zv_c2 (L' := [.ref 1592, .int 102, .int (Int32.ofNat p), .retAddr 0, .retAddr 0, .int (Int32.ofNat a), .int (Int32.ofNat b), .int (-1), .int (Int32.ofNat n)]) ht rfl rfl ?_
  refine zv_c1 ht rfl rfl (zv_c1 ht rfl rfl ?_)
  refine zv_br ht rfl rfl rfl (fun h => absurd h (by decide)) (fun _ => ?_)
  refine zv_c1 ht rfl rfl (zv_c1 ht rfl rfl (zv_c1 ht rfl rfl (zv_c1 ht rfl rfl (zv_c1 ht rfl rfl ?_))))
  refine zv_cl ht rfl rfl rfl rfl (by omega) (Nat.le_of_ble_eq_true rfl) h1

theorem ic294_10 {d : Nat} {S : zS} (hF : zFin true S) (hd : 1 ≤ d) (p a b c n : Nat)  (hp : p ≤ 300) (ha : a < 3000) (hb : b < 3000) (hc : c < 3000) (hn : n < 3000) {post : Outcome × zS → Prop} (h1 : zCall (d - 1) 154 [.ref 1592, .int (Int32.ofNat n), .int (Int32.ofNat a)] S (zAf d 151 320 [.ref 1592, .int 10, .int (Int32.ofNat p), .retAddr 0, .retAddr 0, .int (Int32.ofNat a), .int (Int32.ofNat b), .int (Int32.ofNat c), .int (Int32.ofNat n)] [] post)) : zEv d 151 294 [.ref 1592, .int 10, .int (Int32.ofNat p), .retAddr 0, .retAddr 0, .int (Int32.ofNat a), .int (Int32.ofNat b), .int (Int32.ofNat c), .retAddr 0] [.int (Int32.ofNat n)] S post := by
  have ht : ztab 151 = ztb151 := rfl
  refine zv_c2 (L' := [.ref 1592, .int 10, .int (Int32.ofNat p), .retAddr 0, .retAddr 0, .int (Int32.ofNat a), .int (Int32.ofNat b), .int (Int32.ofNat c), .int (Int32.ofNat n)]) ht rfl rfl ?_
  refine zv_c1 ht rfl rfl (zv_c1 ht rfl rfl ?_)
  refine zv_br ht rfl rfl rfl (fun _ => ?_) (fun h => absurd (by decide) h)
  refine zv_c1 ht rfl rfl (zv_c1 ht rfl rfl (zv_c1 ht rfl rfl ?_))
  refine zv_cl ht rfl rfl rfl rfl (by omega) (Nat.le_of_ble_eq_true rfl) h1

theorem ic310 {d : Nat} {S : zS} (hF : zFin true S) (hd : 1 ≤ d) (a b n o : Nat)  (ha : a < 3000) (hb : b < 3000) (hn : n < 3000) (ho : o < 3000) {post : Outcome × zS → Prop} (h1 : zCall (d - 1) 134 [.ref 1592, .int (Int32.ofNat o)] S (zAf d 151 310 [.ref 1592, .retAddr 0, .retAddr 0, .retAddr 0, .retAddr 0, .int (Int32.ofNat a), .int (Int32.ofNat b), .retAddr 0, .int (Int32.ofNat n)] [] post)) : zEv d 151 310 [.ref 1592, .retAddr 0, .retAddr 0, .retAddr 0, .retAddr 0, .int (Int32.ofNat a), .int (Int32.ofNat b), .retAddr 0, .int (Int32.ofNat n)] [.int (Int32.ofNat o), .ref 1592] S post := by
  have ht : ztab 151 = ztb151 := rfl
  refine zv_cl ht rfl rfl rfl rfl (by omega) (Nat.le_of_ble_eq_true rfl) h1

theorem ic313 {d : Nat} {S : zS} (hF : zFin true S) (hd : 1 ≤ d) (a b n o : Nat)  (ha : a < 3000) (hb : b < 3000) (hn : n < 3000) (ho : o < 3000) {post : Outcome × zS → Prop} (h1 : zCall (d - 1) 154 [.ref 1592, .int (Int32.ofNat n), .int (Int32.ofNat a)] S (zAf d 151 320 [.ref 1592, .retAddr 0, .retAddr 0, .retAddr 0, .retAddr 0, .int (Int32.ofNat a), .int (Int32.ofNat b), .int (Int32.ofNat o), .int (Int32.ofNat n)] [] post)) : zEv d 151 313 [.ref 1592, .retAddr 0, .retAddr 0, .retAddr 0, .retAddr 0, .int (Int32.ofNat a), .int (Int32.ofNat b), .retAddr 0, .int (Int32.ofNat n)] [.int (Int32.ofNat o)] S post := by
  have ht : ztab 151 = ztb151 := rfl
  refine zv_c2 (L' := [.ref 1592, .retAddr 0, .retAddr 0, .retAddr 0, .retAddr 0, .int (Int32.ofNat a), .int (Int32.ofNat b), .int (Int32.ofNat o), .int (Int32.ofNat n)]) ht rfl rfl ?_
  refine zv_c1 ht rfl rfl (zv_c1 ht rfl rfl (zv_c1 ht rfl rfl ?_))
  refine zv_cl ht rfl rfl rfl rfl (by omega) (Nat.le_of_ble_eq_true rfl) h1

theorem ic323 {d : Nat} {S : zS} (hF : zFin true S) (hd : 1 ≤ d) (b n : Nat) (y : Int32)  (hb : b < 3000) (hn : n < 3000) {post : Outcome × zS → Prop} (h1 : zCall (d - 1) 154 [.ref 1592, .int (Int32.ofNat n), .int (Int32.ofNat b)] S (zAf d 151 328 [.ref 1592, .retAddr 0, .retAddr 0, .retAddr 0, .retAddr 0, .retAddr 0, .int (Int32.ofNat b), .int y, .int (Int32.ofNat n)] [] post)) : zEv d 151 323 [.ref 1592, .retAddr 0, .retAddr 0, .retAddr 0, .retAddr 0, .retAddr 0, .int (Int32.ofNat b), .int y, .int (Int32.ofNat n)] [] S post := by
  have ht : ztab 151 = ztb151 := rfl
  refine zv_c1 ht rfl rfl (zv_c1 ht rfl rfl (zv_c1 ht rfl rfl ?_))
  refine zv_cl ht rfl rfl rfl rfl (by omega) (Nat.le_of_ble_eq_true rfl) h1

theorem ic331 {d : Nat} {S : zS} (hF : zFin true S) (hd : 1 ≤ d) (n : Nat)  (hn : n < 3000) {post : Outcome × zS → Prop} (h1 : zCall (d - 1) 134 [.ref 1592, .int (Int32.ofNat n)] S (zAf d 151 348 [.ref 1592, .retAddr 0, .retAddr 0, .retAddr 0, .retAddr 0, .retAddr 0, .retAddr 0, .int (-1), .int (Int32.ofNat n)] [] post)) : zEv d 151 331 [.ref 1592, .retAddr 0, .retAddr 0, .retAddr 0, .retAddr 0, .retAddr 0, .retAddr 0, .int (-1), .int (Int32.ofNat n)] [] S post := by
  have ht : ztab 151 = ztb151 := rfl
  refine zv_c1 ht rfl rfl (zv_c1 ht rfl rfl ?_)
  refine zv_br ht rfl rfl rfl (fun _ => ?_) (fun h => absurd (by decide) h)
  refine zv_c1 ht rfl rfl (zv_c1 ht rfl rfl ?_)
  refine zv_cl ht rfl rfl rfl rfl (by omega) (Nat.le_of_ble_eq_true rfl) h1

theorem ic331c {d : Nat} {S : zS} (hF : zFin true S) (hd : 1 ≤ d) (c n : Nat)  (hc : c < 3000) (hn : n < 3000) {post : Outcome × zS → Prop} (h1 : zCall (d - 1) 154 [.ref 1592, .int (Int32.ofNat n), .int (Int32.ofNat c)] S (zAf d 151 342 [.ref 1592, .retAddr 0, .retAddr 0, .retAddr 0, .retAddr 0, .retAddr 0, .retAddr 0, .int (Int32.ofNat c), .int (Int32.ofNat n)] [] post)) : zEv d 151 331 [.ref 1592, .retAddr 0, .retAddr 0, .retAddr 0, .retAddr 0, .retAddr 0, .retAddr 0, .int (Int32.ofNat c), .int (Int32.ofNat n)] [] S post := by
  have ht : ztab 151 = ztb151 := rfl
  refine zv_c1 ht rfl rfl (zv_c1 ht rfl rfl ?_)
  refine zv_br ht rfl rfl rfl (fun b1 => ((zi_nneg rfl (by omega) (by decide)) b1).elim) (fun b1 => ?_)
  refine zv_c1 ht rfl rfl (zv_c1 ht rfl rfl (zv_c1 ht rfl rfl ?_))
  refine zv_cl ht rfl rfl rfl rfl (by omega) (Nat.le_of_ble_eq_true rfl) h1

theorem ic345 {d : Nat} {S : zS} (hF : zFin true S) (hd : 1 ≤ d) (n : Nat)  (hn : n < 3000) {post : Outcome × zS → Prop} (h1 : zCall (d - 1) 134 [.ref 1592, .int (Int32.ofNat n)] S (zAf d 151 348 [.ref 1592, .retAddr 0, .retAddr 0, .retAddr 0, .retAddr 0, .retAddr 0, .retAddr 0, .retAddr 0, .int (Int32.ofNat n)] [] post)) : zEv d 151 345 [.ref 1592, .retAddr 0, .retAddr 0, .retAddr 0, .retAddr 0, .retAddr 0, .retAddr 0, .retAddr 0, .int (Int32.ofNat n)] [] S post := by
  have ht : ztab 151 = ztb151 := rfl
  refine zv_c1 ht rfl rfl (zv_c1 ht rfl rfl ?_)
  refine zv_cl ht rfl rfl rfl rfl (by omega) (Nat.le_of_ble_eq_true rfl) h1

theorem ic351 {d : Nat} {S : zS} (hF : zFin true S) (y : Int32) {post : Outcome × zS → Prop} (h1 : post (.returned (some (.int y)), S)) : zEv d 151 351 [.retAddr 0, .retAddr 0, .retAddr 0, .retAddr 0, .retAddr 0, .retAddr 0, .retAddr 0, .retAddr 0, .retAddr 0] [.int y] S post := by
  have ht : ztab 151 = ztb151 := rfl
  exact zv_rt ht rfl rfl rfl rfl h1


