set_option maxRecDepth 100000
/-! ===== the twin reads rows of parts ===== -/
theorem sl17 {d : Nat} {S : zS} (hF : zFin true S) (hd : 3 ≤ d) {tp : Nat → Nat} {sz at0 rd nx mk B : Nat} {rec : Nat → Nat → Nat → pE (zNd × Nat × Nat)} (p deep v got : Nat)  (hP : mP tp sz S at0 rd nx (mk + got)) (hp : p ≤ 300) (hdp : deep < 2000) (hrd : rd ≤ 80) (hs0 : sz ≤ 300) (ha0 : at0 ≤ sz) (hB : nx + 2 * (sz - at0) + 3 ≤ B) (hB3 : B ≤ 3000) (hv : v < 2147483648) (hmk : mk + got + (sz - at0) ≤ 2000) (hg : got ≤ 12) (hR : mRd tp sz B (d - 1) (deep + 1) rec) {post : Outcome × zS → Prop} (h1 : (¬ (got = 0)) → ∀ c6 : Nat, (pSee tp sz at0 = c6) → (c6 < 256) → (¬ (c6 = 44)) → zEv d 156 131 [.ref 1592, .int (Int32.ofNat 17), .int (Int32.ofNat p), .retAddr 0, .int (Int32.ofNat v), .retAddr 0, .int (Int32.ofNat got), .int (Int32.ofNat mk), .retAddr 0, .retAddr 0] [] S post) (h2 : (got = 0) → ∀ S9 : zS, (zFin true S9) → (pWant tp sz 44 at0 = .ok (at0 + 1)) → (mFr B nx (mk + got) S S9) → (mP tp sz S9 (at0 + 1) rd nx (mk + got)) → ∀ S11 : zS, ∀ y11 : zNd, ∀ i11 : Nat, ∀ at11 : Nat, ∀ rd11 : Nat, ∀ nx11 : Nat, (zFin true S11) → (rec (deep + 1) (at0 + 1) rd = .ok (y11, at11, rd11)) → (mFr B nx (mk + got) S9 S11) → (mT true S11 nx nx11 y11 i11) → (mP tp sz S11 at11 rd11 nx11 (mk + got)) → ((at0 + 1) < at11 ∧ at11 ≤ sz ∧ nx11 ≤ nx + 2 * (at11 - (at0 + 1)) ∧ rd11 ≤ 80 ∧ nx < nx11 ∧ i11 < 3000) → zEv d 156 30 [.ref 1592, .int (Int32.ofNat 17), .int (Int32.ofNat p), .int (Int32.ofNat deep), .int (Int32.ofNat v), .int (Int32.ofNat 12), .int (Int32.ofNat (got + 1)), .int (Int32.ofNat mk), .retAddr 0, .retAddr 0] [] (sI (sA S11 1619 (mk + got) (Int32.ofNat i11)) 97 1592 (Int32.ofNat ((mk + got) + 1))) post) (h3 : (¬ (got = 0)) → ∀ c6 : Nat, (pSee tp sz at0 = c6) → (c6 < 256) → (c6 = 44) → (¬ (got = 12)) → ∀ S28 : zS, (zFin true S28) → (pWant tp sz 44 at0 = .ok (at0 + 1)) → (mFr B nx (mk + got) S S28) → (mP tp sz S28 (at0 + 1) rd nx (mk + got)) → ∀ S30 : zS, ∀ y30 : zNd, ∀ i30 : Nat, ∀ at30 : Nat, ∀ rd30 : Nat, ∀ nx30 : Nat, (zFin true S30) → (rec (deep + 1) (at0 + 1) rd = .ok (y30, at30, rd30)) → (mFr B nx (mk + got) S28 S30) → (mT true S30 nx nx30 y30 i30) → (mP tp sz S30 at30 rd30 nx30 (mk + got)) → ((at0 + 1) < at30 ∧ at30 ≤ sz ∧ nx30 ≤ nx + 2 * (at30 - (at0 + 1)) ∧ rd30 ≤ 80 ∧ nx < nx30 ∧ i30 < 3000) → zEv d 156 30 [.ref 1592, .int (Int32.ofNat 17), .int (Int32.ofNat p), .int (Int32.ofNat deep), .int (Int32.ofNat v), .int (Int32.ofNat 12), .int (Int32.ofNat (got + 1)), .int (Int32.ofNat mk), .retAddr 0, .retAddr 0] [] (sI (sA S30 1619 (mk + got) (Int32.ofNat i30)) 97 1592 (Int32.ofNat ((mk + got) + 1))) post) (h4 : (got = 0) → ∀ S9 : zS, (zFin true S9) → (pWant tp sz 44 at0 = .ok (at0 + 1)) → (mFr B nx (mk + got) S S9) → (mP tp sz S9 (at0 + 1) rd nx (mk + got)) → ∀ S12 : zS, ∀ u12 : Int32, ∀ kk12 : Nat, ∀ z12 : Nat, (zFin true S12) → (rec (deep + 1) (at0 + 1) rd = .error (kk12, z12)) → (mFr B nx (mk + got) S9 S12) → (mX S12 kk12 z12) → (0 < kk12 ∧ kk12 < 4) → post (.returned (some (.int (-1))), S12)) (h5 : (got = 0) → ∀ S10 : zS, (zFin true S10) → (pWant tp sz 44 at0 = .error (1, at0)) → (mFr B nx (mk + got) S S10) → (mX S10 1 at0) → post (.returned (some (.int (-1))), S10)) (h6 : (¬ (got = 0)) → ∀ c6 : Nat, (pSee tp sz at0 = c6) → (c6 < 256) → (c6 = 44) → (¬ (got = 12)) → ∀ S28 : zS, (zFin true S28) → (pWant tp sz 44 at0 = .ok (at0 + 1)) → (mFr B nx (mk + got) S S28) → (mP tp sz S28 (at0 + 1) rd nx (mk + got)) → ∀ S31 : zS, ∀ u31 : Int32, ∀ kk31 : Nat, ∀ z31 : Nat, (zFin true S31) → (rec (deep + 1) (at0 + 1) rd = .error (kk31, z31)) → (mFr B nx (mk + got) S28 S31) → (mX S31 kk31 z31) → (0 < kk31 ∧ kk31 < 4) → post (.returned (some (.int (-1))), S31)) (h7 : (¬ (got = 0)) → ∀ c6 : Nat, (pSee tp sz at0 = c6) → (c6 < 256) → (c6 = 44) → (¬ (got = 12)) → ∀ S29 : zS, (zFin true S29) → (pWant tp sz 44 at0 = .error (1, at0)) → (mFr B nx (mk + got) S S29) → (mX S29 1 at0) → post (.returned (some (.int (-1))), S29)) (h8 : (¬ (got = 0)) → ∀ c6 : Nat, (pSee tp sz at0 = c6) → (c6 < 256) → (c6 = 44) → (got = 12) → ∀ S27 : zS, (zFin true S27) → (mFr B nx (mk + got) S S27) → (mX S27 1 at0) → (mV tp sz S27 at0) → post (.returned (some (.int (-1))), S27)) : zEv d 156 30 [.ref 1592, .int 17, .int (Int32.ofNat p), .int (Int32.ofNat deep), .int (Int32.ofNat v), .int 12, .int (Int32.ofNat got), .int (Int32.ofNat mk), .retAddr 0, .retAddr 0] [] S post := by
  have ht : ztab 156 = ztb156 := rfl
  refine zv_c1 ht rfl rfl ?_
  have C2 : ∀ (pst1 : Outcome × zS → Prop), (pst1 (.returned (some (.int 1)), S)) → zCall (d - 1) 125 [.ref 1592] S pst1 := by
    intro pst1 k4
    have ht3 : ztab 125 = ztb125 := rfl
    show zEv (d - 1) 125 0 [.ref 1592] [] S pst1
    refine zv_c1 ht3 rfl rfl ?_
    refine zv_e1 (x := 0) ht3 rfl rfl hP.1.2.2.1 ?_
    refine zv_br ht3 rfl rfl rfl (fun h => absurd h (by decide)) (fun _ => ?_)
    refine zv_c1 ht3 rfl rfl (zv_c1 ht3 rfl rfl ?_)
    exact zv_rc ht3 rfl rfl rfl rfl (by decide) k4
  refine zv_cl ht rfl rfl rfl rfl (by omega) (Nat.le_of_ble_eq_true rfl) (C2 _ ?_)
  show zEv d 156 34 [.ref 1592, .int 17, .int (Int32.ofNat p), .int (Int32.ofNat deep), .int (Int32.ofNat v), .int 12, .int (Int32.ofNat got), .int (Int32.ofNat mk), .retAddr 0, .retAddr 0] [.int 1] S post
  refine zv_br ht rfl rfl rfl (fun h => absurd h (by decide)) (fun _ => ?_)
  refine zv_c1 ht rfl rfl ?_
  refine zv_br ht rfl rfl rfl (fun b5 => ?_) (fun b5 => ?_)
  · replace b5 : got = 0 := (zi_eqE (a := got) (b := 0) rfl rfl (by omega) (by omega)).mp b5
    refine zv_c1 ht rfl rfl (zv_c1 ht rfl rfl ?_)
    refine zv_br ht rfl rfl rfl (fun b8 => ?_) (fun b8 => (show False from by have hq := b8; have hz : got = 12 := (zi_eqE (a := got) (b := 12) rfl rfl (by omega) (by omega)).mp (Classical.not_not.mp hq); omega).elim)
    refine zv_c1 ht rfl rfl (zv_c1 ht rfl rfl ?_)
    refine zv_cl ht rfl rfl rfl rfl (by omega) (Nat.le_of_ble_eq_true rfl) (m_want (S := S) (tp := tp) (sz := sz) (B := B) (w := 44) hF (by omega) hP (by omega) (by omega) (fun S9 hF9 e9 k9 p9 => ?_) (fun S10 hF10 e10 k10 x10 => ?_))
    · show zEv d 156 73 [.ref 1592, .int 17, .int (Int32.ofNat p), .int (Int32.ofNat deep), .int (Int32.ofNat v), .int 12, .int (Int32.ofNat got), .int (Int32.ofNat mk), .retAddr 0, .retAddr 0] [] S9 post
      refine zv_c1 ht rfl rfl (zv_c1 ht rfl rfl ?_)
      refine zv_br ht rfl rfl rfl (fun _ => ?_) (fun h => absurd (by decide) h)
      refine zv_c1 ht rfl rfl (zv_c1 ht rfl rfl (zv_c1 ht rfl rfl ?_))
      refine zv_e1 (x := Int32.ofNat (deep + 1)) ht rfl rfl (zi_addE (a := deep) (b := 1) rfl rfl) ?_
      refine zv_cl ht rfl rfl rfl rfl (by omega) (Nat.le_of_ble_eq_true rfl) (hR (S := S9) (nx := nx) (wt := mk + got) hF9 p9 (by omega) (by omega) (by omega) (fun S11 y11 i11 at11 rd11 nx11 hF11 e11 k11 t11 p11 g11 => ?_) (fun S12 u12 kk12 z12 hF12 e12 k12 x12 w12 => ?_))
      · show zEv d 156 93 [.ref 1592, .int 17, .int (Int32.ofNat p), .int (Int32.ofNat deep), .int (Int32.ofNat v), .int 12, .int (Int32.ofNat got), .int (Int32.ofNat mk), .retAddr 0, .retAddr 0] [.int (Int32.ofNat i11)] S11 post
        refine zv_c2 (L' := [.ref 1592, .int 17, .int (Int32.ofNat p), .int (Int32.ofNat deep), .int (Int32.ofNat v), .int 12, .int (Int32.ofNat got), .int (Int32.ofNat mk), .int (Int32.ofNat i11), .retAddr 0]) ht rfl rfl ?_
        refine zv_c1 ht rfl rfl ?_
        have C14 : ∀ (pst13 : Outcome × zS → Prop), (pst13 (.returned (some (.int 1)), S11)) → zCall (d - 1) 125 [.ref 1592] S11 pst13 := by
          intro pst13 k16
          have ht15 : ztab 125 = ztb125 := rfl
          show zEv (d - 1) 125 0 [.ref 1592] [] S11 pst13
          refine zv_c1 ht15 rfl rfl ?_
          refine zv_e1 (x := 0) ht15 rfl rfl p11.1.2.2.1 ?_
          refine zv_br ht15 rfl rfl rfl (fun h => absurd h (by decide)) (fun _ => ?_)
          refine zv_c1 ht15 rfl rfl (zv_c1 ht15 rfl rfl ?_)
          exact zv_rc ht15 rfl rfl rfl rfl (by decide) k16
        refine zv_cl ht rfl rfl rfl rfl (by omega) (Nat.le_of_ble_eq_true rfl) (C14 _ ?_)
        show zEv d 156 99 [.ref 1592, .int 17, .int (Int32.ofNat p), .int (Int32.ofNat deep), .int (Int32.ofNat v), .int 12, .int (Int32.ofNat got), .int (Int32.ofNat mk), .int (Int32.ofNat i11), .retAddr 0] [.int 1] S11 post
        refine zv_br ht rfl rfl rfl (fun _ => ?_) (fun h => absurd (by decide) h)
        refine zv_c1 ht rfl rfl ?_
        refine zv_gl (st' := [.ref 1619]) ht rfl hF11 rfl rfl rfl ?_
        refine zv_c1 ht rfl rfl ?_
        refine zv_e1 (x := Int32.ofNat (mk + got)) ht rfl rfl p11.1.2.2.2.2.2 ?_
        refine zv_c1 ht rfl rfl ?_
        refine zv_is (j := mk + got) (x := Int32.ofNat i11) ht rfl rfl rfl rfl (zi_natE (a := mk + got) rfl (by omega)) ⟨rfl, zi_inE (a := mk + got) (n := 2000) rfl (by omega) (by omega)⟩ ?_
        refine zv_c1 ht rfl rfl (zv_c1 ht rfl rfl ?_)
        refine zv_e1 (x := Int32.ofNat (mk + got)) ht rfl rfl p11.1.2.2.2.2.2 ?_
        refine zv_c1 ht rfl rfl ?_
        refine zv_e1 (x := Int32.ofNat ((mk + got) + 1)) ht rfl rfl (zi_addE (a := mk + got) (b := 1) rfl rfl) ?_
        refine zv_c1 (S' := sI (sA S11 1619 (mk + got) (Int32.ofNat i11)) 97 1592 (Int32.ofNat ((mk + got) + 1))) ht rfl rfl ?_
        refine zv_iinc (L' := [.ref 1592, .int 17, .int (Int32.ofNat p), .int (Int32.ofNat deep), .int (Int32.ofNat v), .int 12, .int (Int32.ofNat (got + 1)), .int (Int32.ofNat mk), .int (Int32.ofNat i11), .retAddr 0]) (i := 6) (x := Int32.ofNat (got + 1)) ht rfl rfl (zi_addE (a := got) (b := 1) rfl rfl) rfl ?_
        refine zv_c1 ht rfl rfl ?_
        exact zEv.wk (L := [.ref 1592, .int (Int32.ofNat 17), .int (Int32.ofNat p), .int (Int32.ofNat deep), .int (Int32.ofNat v), .int (Int32.ofNat 12), .int (Int32.ofNat (got + 1)), .int (Int32.ofNat mk), .retAddr 0, .retAddr 0]) (L' := [.ref 1592, .int 17, .int (Int32.ofNat p), .int (Int32.ofNat deep), .int (Int32.ofNat v), .int 12, .int (Int32.ofNat (got + 1)), .int (Int32.ofNat mk), .int (Int32.ofNat i11), .retAddr 0]) (And.intro (Or.inl rfl) (And.intro (Or.inl rfl) (And.intro (Or.inl rfl) (And.intro (Or.inl rfl) (And.intro (Or.inl rfl) (And.intro (Or.inl rfl) (And.intro (Or.inl rfl) (And.intro (Or.inl rfl) (And.intro (Or.inr rfl) (And.intro (Or.inl rfl) trivial)))))))))) (h2 b5 S9 hF9 e9 k9 p9 S11 y11 i11 at11 rd11 nx11 hF11 e11 k11 t11 p11 g11)
      · show zEv d 156 93 [.ref 1592, .int 17, .int (Int32.ofNat p), .int (Int32.ofNat deep), .int (Int32.ofNat v), .int 12, .int (Int32.ofNat got), .int (Int32.ofNat mk), .retAddr 0, .retAddr 0] [.int u12] S12 post
        refine zv_c2 (L' := [.ref 1592, .int 17, .int (Int32.ofNat p), .int (Int32.ofNat deep), .int (Int32.ofNat v), .int 12, .int (Int32.ofNat got), .int (Int32.ofNat mk), .int u12, .retAddr 0]) ht rfl rfl ?_
        refine zv_c1 ht rfl rfl ?_
        have C18 : ∀ (pst17 : Outcome × zS → Prop), (pst17 (.returned (some (.int 0)), S12)) → zCall (d - 1) 125 [.ref 1592] S12 pst17 := by
          intro pst17 k21
          have ht19 : ztab 125 = ztb125 := rfl
          show zEv (d - 1) 125 0 [.ref 1592] [] S12 pst17
          refine zv_c1 ht19 rfl rfl ?_
          refine zv_e1 (x := Int32.ofNat kk12) ht19 rfl rfl x12.1 ?_
          refine zv_br ht19 rfl rfl rfl (fun b20 => ?_) (fun b20 => (show False from by have hq := b20; have hz : kk12 = 0 := (zi_eqE (a := kk12) (b := 0) rfl rfl (by omega) (by omega)).mp (Classical.not_not.mp hq); omega).elim)
          refine zv_c1 ht19 rfl rfl ?_
          exact zv_rc ht19 rfl rfl rfl rfl (by decide) k21
        refine zv_cl ht rfl rfl rfl rfl (by omega) (Nat.le_of_ble_eq_true rfl) (C18 _ ?_)
        show zEv d 156 99 [.ref 1592, .int 17, .int (Int32.ofNat p), .int (Int32.ofNat deep), .int (Int32.ofNat v), .int 12, .int (Int32.ofNat got), .int (Int32.ofNat mk), .int u12, .retAddr 0] [.int 0] S12 post
        refine zv_br ht rfl rfl rfl (fun h => absurd h (by decide)) (fun _ => ?_)
        refine zv_c1 ht rfl rfl ?_
        exact zv_rt ht rfl rfl rfl rfl (h4 b5 S9 hF9 e9 k9 p9 S12 u12 kk12 z12 hF12 e12 k12 x12 w12)
    · show zEv d 156 73 [.ref 1592, .int 17, .int (Int32.ofNat p), .int (Int32.ofNat deep), .int (Int32.ofNat v), .int 12, .int (Int32.ofNat got), .int (Int32.ofNat mk), .retAddr 0, .retAddr 0] [] S10 post
      refine zv_c1 ht rfl rfl (zv_c1 ht rfl rfl ?_)
      refine zv_br ht rfl rfl rfl (fun _ => ?_) (fun h => absurd (by decide) h)
      refine zv_c1 ht rfl rfl (zv_c1 ht rfl rfl (zv_c1 ht rfl rfl ?_))
      refine zv_e1 (x := Int32.ofNat (deep + 1)) ht rfl rfl (zi_addE (a := deep) (b := 1) rfl rfl) ?_
      refine zv_cl ht rfl rfl rfl rfl (by omega) (Nat.le_of_ble_eq_true rfl) (m_fragX (S := S10) hF10 (by omega) x10 ?_)
      show zEv d 156 93 [.ref 1592, .int 17, .int (Int32.ofNat p), .int (Int32.ofNat deep), .int (Int32.ofNat v), .int 12, .int (Int32.ofNat got), .int (Int32.ofNat mk), .retAddr 0, .retAddr 0] [.int (-1)] S10 post
      refine zv_c2 (L' := [.ref 1592, .int 17, .int (Int32.ofNat p), .int (Int32.ofNat deep), .int (Int32.ofNat v), .int 12, .int (Int32.ofNat got), .int (Int32.ofNat mk), .int (-1), .retAddr 0]) ht rfl rfl ?_
      refine zv_c1 ht rfl rfl ?_
      have C23 : ∀ (pst22 : Outcome × zS → Prop), (pst22 (.returned (some (.int 0)), S10)) → zCall (d - 1) 125 [.ref 1592] S10 pst22 := by
        intro pst22 k25
        have ht24 : ztab 125 = ztb125 := rfl
        show zEv (d - 1) 125 0 [.ref 1592] [] S10 pst22
        refine zv_c1 ht24 rfl rfl ?_
        refine zv_e1 (x := 1) ht24 rfl rfl x10.1 ?_
        refine zv_br ht24 rfl rfl rfl (fun _ => ?_) (fun h => absurd (by decide) h)
        refine zv_c1 ht24 rfl rfl ?_
        exact zv_rc ht24 rfl rfl rfl rfl (by decide) k25
      refine zv_cl ht rfl rfl rfl rfl (by omega) (Nat.le_of_ble_eq_true rfl) (C23 _ ?_)
      show zEv d 156 99 [.ref 1592, .int 17, .int (Int32.ofNat p), .int (Int32.ofNat deep), .int (Int32.ofNat v), .int 12, .int (Int32.ofNat got), .int (Int32.ofNat mk), .int (-1), .retAddr 0] [.int 0] S10 post
      refine zv_br ht rfl rfl rfl (fun h => absurd h (by decide)) (fun _ => ?_)
      refine zv_c1 ht rfl rfl ?_
      exact zv_rt ht rfl rfl rfl rfl (h5 b5 S10 hF10 e10 k10 x10)
  · replace b5 : ¬ (got = 0) := fun h => b5 ((zi_eqE (a := got) (b := 0) rfl rfl (by omega) (by omega)).mpr h)
    refine zv_c1 ht rfl rfl ?_
    refine zv_cl ht rfl rfl rfl rfl (by omega) (Nat.le_of_ble_eq_true rfl) (m_seeP (S := S) (tp := tp) (sz := sz) hF (by omega) hP (fun c6 e6 b6 => ?_))
    show zEv d 156 46 [.ref 1592, .int 17, .int (Int32.ofNat p), .int (Int32.ofNat deep), .int (Int32.ofNat v), .int 12, .int (Int32.ofNat got), .int (Int32.ofNat mk), .retAddr 0, .retAddr 0] [.int (Int32.ofNat c6)] S post
    refine zv_c1 ht rfl rfl ?_
    refine zv_br ht rfl rfl rfl (fun b7 => ?_) (fun b7 => ?_)
    · replace b7 : ¬ (c6 = 44) := fun h => b7 ((zi_eqE (a := c6) (b := 44) rfl rfl (by omega) (by omega)).mpr h)
      exact zEv.wk (L := [.ref 1592, .int (Int32.ofNat 17), .int (Int32.ofNat p), .retAddr 0, .int (Int32.ofNat v), .retAddr 0, .int (Int32.ofNat got), .int (Int32.ofNat mk), .retAddr 0, .retAddr 0]) (L' := [.ref 1592, .int 17, .int (Int32.ofNat p), .int (Int32.ofNat deep), .int (Int32.ofNat v), .int 12, .int (Int32.ofNat got), .int (Int32.ofNat mk), .retAddr 0, .retAddr 0]) (And.intro (Or.inl rfl) (And.intro (Or.inl rfl) (And.intro (Or.inl rfl) (And.intro (Or.inr rfl) (And.intro (Or.inl rfl) (And.intro (Or.inr rfl) (And.intro (Or.inl rfl) (And.intro (Or.inl rfl) (And.intro (Or.inl rfl) (And.intro (Or.inl rfl) trivial)))))))))) (h1 b5 c6 e6 b6 b7)
    · replace b7 : c6 = 44 := (zi_eqE (a := c6) (b := 44) rfl rfl (by omega) (by omega)).mp (Classical.not_not.mp b7)
      refine zv_c1 ht rfl rfl (zv_c1 ht rfl rfl ?_)
      refine zv_br ht rfl rfl rfl (fun b26 => ?_) (fun b26 => ?_)
      · replace b26 : ¬ (got = 12) := fun h => b26 ((zi_eqE (a := got) (b := 12) rfl rfl (by omega) (by omega)).mpr h)
        refine zv_c1 ht rfl rfl (zv_c1 ht rfl rfl ?_)
        refine zv_cl ht rfl rfl rfl rfl (by omega) (Nat.le_of_ble_eq_true rfl) (m_want (S := S) (tp := tp) (sz := sz) (B := B) (w := 44) hF (by omega) hP (by omega) (by omega) (fun S28 hF28 e28 k28 p28 => ?_) (fun S29 hF29 e29 k29 x29 => ?_))
        · show zEv d 156 73 [.ref 1592, .int 17, .int (Int32.ofNat p), .int (Int32.ofNat deep), .int (Int32.ofNat v), .int 12, .int (Int32.ofNat got), .int (Int32.ofNat mk), .retAddr 0, .retAddr 0] [] S28 post
          refine zv_c1 ht rfl rfl (zv_c1 ht rfl rfl ?_)
          refine zv_br ht rfl rfl rfl (fun _ => ?_) (fun h => absurd (by decide) h)
          refine zv_c1 ht rfl rfl (zv_c1 ht rfl rfl (zv_c1 ht rfl rfl ?_))
          refine zv_e1 (x := Int32.ofNat (deep + 1)) ht rfl rfl (zi_addE (a := deep) (b := 1) rfl rfl) ?_
          refine zv_cl ht rfl rfl rfl rfl (by omega) (Nat.le_of_ble_eq_true rfl) (hR (S := S28) (nx := nx) (wt := mk + got) hF28 p28 (by omega) (by omega) (by omega) (fun S30 y30 i30 at30 rd30 nx30 hF30 e30 k30 t30 p30 g30 => ?_) (fun S31 u31 kk31 z31 hF31 e31 k31 x31 w31 => ?_))
          · show zEv d 156 93 [.ref 1592, .int 17, .int (Int32.ofNat p), .int (Int32.ofNat deep), .int (Int32.ofNat v), .int 12, .int (Int32.ofNat got), .int (Int32.ofNat mk), .retAddr 0, .retAddr 0] [.int (Int32.ofNat i30)] S30 post
            refine zv_c2 (L' := [.ref 1592, .int 17, .int (Int32.ofNat p), .int (Int32.ofNat deep), .int (Int32.ofNat v), .int 12, .int (Int32.ofNat got), .int (Int32.ofNat mk), .int (Int32.ofNat i30), .retAddr 0]) ht rfl rfl ?_
            refine zv_c1 ht rfl rfl ?_
            have C33 : ∀ (pst32 : Outcome × zS → Prop), (pst32 (.returned (some (.int 1)), S30)) → zCall (d - 1) 125 [.ref 1592] S30 pst32 := by
              intro pst32 k35
              have ht34 : ztab 125 = ztb125 := rfl
              show zEv (d - 1) 125 0 [.ref 1592] [] S30 pst32
              refine zv_c1 ht34 rfl rfl ?_
              refine zv_e1 (x := 0) ht34 rfl rfl p30.1.2.2.1 ?_
              refine zv_br ht34 rfl rfl rfl (fun h => absurd h (by decide)) (fun _ => ?_)
              refine zv_c1 ht34 rfl rfl (zv_c1 ht34 rfl rfl ?_)
              exact zv_rc ht34 rfl rfl rfl rfl (by decide) k35
            refine zv_cl ht rfl rfl rfl rfl (by omega) (Nat.le_of_ble_eq_true rfl) (C33 _ ?_)
            show zEv d 156 99 [.ref 1592, .int 17, .int (Int32.ofNat p), .int (Int32.ofNat deep), .int (Int32.ofNat v), .int 12, .int (Int32.ofNat got), .int (Int32.ofNat mk), .int (Int32.ofNat i30), .retAddr 0] [.int 1] S30 post
            refine zv_br ht rfl rfl rfl (fun _ => ?_) (fun h => absurd (by decide) h)
            refine zv_c1 ht rfl rfl ?_
            refine zv_gl (st' := [.ref 1619]) ht rfl hF30 rfl rfl rfl ?_
            refine zv_c1 ht rfl rfl ?_
            refine zv_e1 (x := Int32.ofNat (mk + got)) ht rfl rfl p30.1.2.2.2.2.2 ?_
            refine zv_c1 ht rfl rfl ?_
            refine zv_is (j := mk + got) (x := Int32.ofNat i30) ht rfl rfl rfl rfl (zi_natE (a := mk + got) rfl (by omega)) ⟨rfl, zi_inE (a := mk + got) (n := 2000) rfl (by omega) (by omega)⟩ ?_
            refine zv_c1 ht rfl rfl (zv_c1 ht rfl rfl ?_)
            refine zv_e1 (x := Int32.ofNat (mk + got)) ht rfl rfl p30.1.2.2.2.2.2 ?_
            refine zv_c1 ht rfl rfl ?_
            refine zv_e1 (x := Int32.ofNat ((mk + got) + 1)) ht rfl rfl (zi_addE (a := mk + got) (b := 1) rfl rfl) ?_
            refine zv_c1 (S' := sI (sA S30 1619 (mk + got) (Int32.ofNat i30)) 97 1592 (Int32.ofNat ((mk + got) + 1))) ht rfl rfl ?_
            refine zv_iinc (L' := [.ref 1592, .int 17, .int (Int32.ofNat p), .int (Int32.ofNat deep), .int (Int32.ofNat v), .int 12, .int (Int32.ofNat (got + 1)), .int (Int32.ofNat mk), .int (Int32.ofNat i30), .retAddr 0]) (i := 6) (x := Int32.ofNat (got + 1)) ht rfl rfl (zi_addE (a := got) (b := 1) rfl rfl) rfl ?_
            refine zv_c1 ht rfl rfl ?_
            exact zEv.wk (L := [.ref 1592, .int (Int32.ofNat 17), .int (Int32.ofNat p), .int (Int32.ofNat deep), .int (Int32.ofNat v), .int (Int32.ofNat 12), .int (Int32.ofNat (got + 1)), .int (Int32.ofNat mk), .retAddr 0, .retAddr 0]) (L' := [.ref 1592, .int 17, .int (Int32.ofNat p), .int (Int32.ofNat deep), .int (Int32.ofNat v), .int 12, .int (Int32.ofNat (got + 1)), .int (Int32.ofNat mk), .int (Int32.ofNat i30), .retAddr 0]) (And.intro (Or.inl rfl) (And.intro (Or.inl rfl) (And.intro (Or.inl rfl) (And.intro (Or.inl rfl) (And.intro (Or.inl rfl) (And.intro (Or.inl rfl) (And.intro (Or.inl rfl) (And.intro (Or.inl rfl) (And.intro (Or.inr rfl) (And.intro (Or.inl rfl) trivial)))))))))) (h3 b5 c6 e6 b6 b7 b26 S28 hF28 e28 k28 p28 S30 y30 i30 at30 rd30 nx30 hF30 e30 k30 t30 p30 g30)
          · show zEv d 156 93 [.ref 1592, .int 17, .int (Int32.ofNat p), .int (Int32.ofNat deep), .int (Int32.ofNat v), .int 12, .int (Int32.ofNat got), .int (Int32.ofNat mk), .retAddr 0, .retAddr 0] [.int u31] S31 post
            refine zv_c2 (L' := [.ref 1592, .int 17, .int (Int32.ofNat p), .int (Int32.ofNat deep), .int (Int32.ofNat v), .int 12, .int (Int32.ofNat got), .int (Int32.ofNat mk), .int u31, .retAddr 0]) ht rfl rfl ?_
            refine zv_c1 ht rfl rfl ?_
            have C37 : ∀ (pst36 : Outcome × zS → Prop), (pst36 (.returned (some (.int 0)), S31)) → zCall (d - 1) 125 [.ref 1592] S31 pst36 := by
              intro pst36 k40
              have ht38 : ztab 125 = ztb125 := rfl
              show zEv (d - 1) 125 0 [.ref 1592] [] S31 pst36
              refine zv_c1 ht38 rfl rfl ?_
              refine zv_e1 (x := Int32.ofNat kk31) ht38 rfl rfl x31.1 ?_
              refine zv_br ht38 rfl rfl rfl (fun b39 => ?_) (fun b39 => (show False from by have hq := b39; have hz : kk31 = 0 := (zi_eqE (a := kk31) (b := 0) rfl rfl (by omega) (by omega)).mp (Classical.not_not.mp hq); omega).elim)
              refine zv_c1 ht38 rfl rfl ?_
              exact zv_rc ht38 rfl rfl rfl rfl (by decide) k40
            refine zv_cl ht rfl rfl rfl rfl (by omega) (Nat.le_of_ble_eq_true rfl) (C37 _ ?_)
            show zEv d 156 99 [.ref 1592, .int 17, .int (Int32.ofNat p), .int (Int32.ofNat deep), .int (Int32.ofNat v), .int 12, .int (Int32.ofNat got), .int (Int32.ofNat mk), .int u31, .retAddr 0] [.int 0] S31 post
            refine zv_br ht rfl rfl rfl (fun h => absurd h (by decide)) (fun _ => ?_)
            refine zv_c1 ht rfl rfl ?_
            exact zv_rt ht rfl rfl rfl rfl (h6 b5 c6 e6 b6 b7 b26 S28 hF28 e28 k28 p28 S31 u31 kk31 z31 hF31 e31 k31 x31 w31)
        · show zEv d 156 73 [.ref 1592, .int 17, .int (Int32.ofNat p), .int (Int32.ofNat deep), .int (Int32.ofNat v), .int 12, .int (Int32.ofNat got), .int (Int32.ofNat mk), .retAddr 0, .retAddr 0] [] S29 post
          refine zv_c1 ht rfl rfl (zv_c1 ht rfl rfl ?_)
          refine zv_br ht rfl rfl rfl (fun _ => ?_) (fun h => absurd (by decide) h)
          refine zv_c1 ht rfl rfl (zv_c1 ht rfl rfl (zv_c1 ht rfl rfl ?_))
          refine zv_e1 (x := Int32.ofNat (deep + 1)) ht rfl rfl (zi_addE (a := deep) (b := 1) rfl rfl) ?_
          refine zv_cl ht rfl rfl rfl rfl (by omega) (Nat.le_of_ble_eq_true rfl) (m_fragX (S := S29) hF29 (by omega) x29 ?_)
          show zEv d 156 93 [.ref 1592, .int 17, .int (Int32.ofNat p), .int (Int32.ofNat deep), .int (Int32.ofNat v), .int 12, .int (Int32.ofNat got), .int (Int32.ofNat mk), .retAddr 0, .retAddr 0] [.int (-1)] S29 post
          refine zv_c2 (L' := [.ref 1592, .int 17, .int (Int32.ofNat p), .int (Int32.ofNat deep), .int (Int32.ofNat v), .int 12, .int (Int32.ofNat got), .int (Int32.ofNat mk), .int (-1), .retAddr 0]) ht rfl rfl ?_
          refine zv_c1 ht rfl rfl ?_
          have C42 : ∀ (pst41 : Outcome × zS → Prop), (pst41 (.returned (some (.int 0)), S29)) → zCall (d - 1) 125 [.ref 1592] S29 pst41 := by
            intro pst41 k44
            have ht43 : ztab 125 = ztb125 := rfl
            show zEv (d - 1) 125 0 [.ref 1592] [] S29 pst41
            refine zv_c1 ht43 rfl rfl ?_
            refine zv_e1 (x := 1) ht43 rfl rfl x29.1 ?_
            refine zv_br ht43 rfl rfl rfl (fun _ => ?_) (fun h => absurd (by decide) h)
            refine zv_c1 ht43 rfl rfl ?_
            exact zv_rc ht43 rfl rfl rfl rfl (by decide) k44
          refine zv_cl ht rfl rfl rfl rfl (by omega) (Nat.le_of_ble_eq_true rfl) (C42 _ ?_)
          show zEv d 156 99 [.ref 1592, .int 17, .int (Int32.ofNat p), .int (Int32.ofNat deep), .int (Int32.ofNat v), .int 12, .int (Int32.ofNat got), .int (Int32.ofNat mk), .int (-1), .retAddr 0] [.int 0] S29 post
          refine zv_br ht rfl rfl rfl (fun h => absurd h (by decide)) (fun _ => ?_)
          refine zv_c1 ht rfl rfl ?_
          exact zv_rt ht rfl rfl rfl rfl (h7 b5 c6 e6 b6 b7 b26 S29 hF29 e29 k29 x29)
      · replace b26 : got = 12 := (zi_eqE (a := got) (b := 12) rfl rfl (by omega) (by omega)).mp (Classical.not_not.mp b26)
        refine zv_c1 ht rfl rfl (zv_c1 ht rfl rfl (zv_c1 ht rfl rfl ?_))
        refine zv_e1 (x := Int32.ofNat at0) ht rfl rfl hP.1.1 ?_
        refine zv_cl ht rfl rfl rfl rfl (by omega) (Nat.le_of_ble_eq_true rfl) (m_fails (S := S) (tp := tp) (sz := sz) (B := B) (f := 1) (p := at0) hF hP (by omega) (by omega) (fun S27 hF27 k27 x27 w27 => ?_))
        show zEv d 156 67 [.ref 1592, .int 17, .int (Int32.ofNat p), .int (Int32.ofNat deep), .int (Int32.ofNat v), .int 12, .int (Int32.ofNat got), .int (Int32.ofNat mk), .retAddr 0, .retAddr 0] [] S27 post
        refine zv_c1 ht rfl rfl (zv_c1 ht rfl rfl ?_)
        refine zv_cl ht rfl rfl rfl rfl (by omega) (Nat.le_of_ble_eq_true rfl) (m_wantX (S := S27) (w := 44) hF27 (by omega) x27 (by omega) ?_)
        show zEv d 156 73 [.ref 1592, .int 17, .int (Int32.ofNat p), .int (Int32.ofNat deep), .int (Int32.ofNat v), .int 12, .int (Int32.ofNat got), .int (Int32.ofNat mk), .retAddr 0, .retAddr 0] [] S27 post
        refine zv_c1 ht rfl rfl (zv_c1 ht rfl rfl ?_)
        refine zv_br ht rfl rfl rfl (fun _ => ?_) (fun h => absurd (by decide) h)
        refine zv_c1 ht rfl rfl (zv_c1 ht rfl rfl (zv_c1 ht rfl rfl ?_))
        refine zv_e1 (x := Int32.ofNat (deep + 1)) ht rfl rfl (zi_addE (a := deep) (b := 1) rfl rfl) ?_
        refine zv_cl ht rfl rfl rfl rfl (by omega) (Nat.le_of_ble_eq_true rfl) (m_fragX (S := S27) hF27 (by omega) x27 ?_)
        show zEv d 156 93 [.ref 1592, .int 17, .int (Int32.ofNat p), .int (Int32.ofNat deep), .int (Int32.ofNat v), .int 12, .int (Int32.ofNat got), .int (Int32.ofNat mk), .retAddr 0, .retAddr 0] [.int (-1)] S27 post
        refine zv_c2 (L' := [.ref 1592, .int 17, .int (Int32.ofNat p), .int (Int32.ofNat deep), .int (Int32.ofNat v), .int 12, .int (Int32.ofNat got), .int (Int32.ofNat mk), .int (-1), .retAddr 0]) ht rfl rfl ?_
        refine zv_c1 ht rfl rfl ?_
        have C46 : ∀ (pst45 : Outcome × zS → Prop), (pst45 (.returned (some (.int 0)), S27)) → zCall (d - 1) 125 [.ref 1592] S27 pst45 := by
          intro pst45 k48
          have ht47 : ztab 125 = ztb125 := rfl
          show zEv (d - 1) 125 0 [.ref 1592] [] S27 pst45
          refine zv_c1 ht47 rfl rfl ?_
          refine zv_e1 (x := 1) ht47 rfl rfl x27.1 ?_
          refine zv_br ht47 rfl rfl rfl (fun _ => ?_) (fun h => absurd (by decide) h)
          refine zv_c1 ht47 rfl rfl ?_
          exact zv_rc ht47 rfl rfl rfl rfl (by decide) k48
        refine zv_cl ht rfl rfl rfl rfl (by omega) (Nat.le_of_ble_eq_true rfl) (C46 _ ?_)
        show zEv d 156 99 [.ref 1592, .int 17, .int (Int32.ofNat p), .int (Int32.ofNat deep), .int (Int32.ofNat v), .int 12, .int (Int32.ofNat got), .int (Int32.ofNat mk), .int (-1), .retAddr 0] [.int 0] S27 post
        refine zv_br ht rfl rfl rfl (fun h => absurd h (by decide)) (fun _ => ?_)
        refine zv_c1 ht rfl rfl ?_
        exact zv_rt ht rfl rfl rfl rfl (h8 b5 c6 e6 b6 b7 b26 S27 hF27 k27 x27 w27)

theorem sl18 {d : Nat} {S : zS} (hF : zFin true S) (hd : 4 ≤ d) {tp : Nat → Nat} {sz at0 rd nx mk B : Nat} {rec : Nat → Nat → Nat → pE (zNd × Nat × Nat)} (p deep v got : Nat)  (hP : mP tp sz S at0 rd nx (mk + got)) (hp : p ≤ 300) (hdp : deep < 2000) (hrd : rd ≤ 80) (hs0 : sz ≤ 300) (ha0 : at0 ≤ sz) (hB : nx + 2 * (sz - at0) + 3 ≤ B) (hB3 : B ≤ 3000) (hv : v < 2147483648) (hmk : mk + got + (sz - at0) ≤ 2000) (hg : got ≤ 16) {post : Outcome × zS → Prop} (h1 : (¬ (got = 0)) → ∀ c6 : Nat, (pSee tp sz at0 = c6) → (c6 < 256) → (¬ (c6 = 44)) → zEv d 156 131 [.ref 1592, .int (Int32.ofNat 18), .int (Int32.ofNat p), .retAddr 0, .int (Int32.ofNat v), .retAddr 0, .int (Int32.ofNat got), .int (Int32.ofNat mk), .retAddr 0, .retAddr 0] [] S post) (h2 : (got = 0) → ∀ S9 : zS, (zFin true S9) → (pWant tp sz 44 at0 = .ok (at0 + 1)) → (mFr B nx (mk + got) S S9) → (mP tp sz S9 (at0 + 1) rd nx (mk + got)) → ∀ S11 : zS, ∀ v11 : Nat, (zFin true S11) → (pKey tp sz (at0 + 1) rd = .ok (v11, (at0 + 1) + 1, rd)) → (v11 ≤ 15) → (mFr B nx (mk + got) S9 S11) → (mP tp sz S11 ((at0 + 1) + 1) rd (nx + 1) (mk + got)) → (mKn S11 nx v11) → ((at0 + 1) + 1 ≤ sz) → zEv d 156 30 [.ref 1592, .int (Int32.ofNat 18), .int (Int32.ofNat p), .int (Int32.ofNat deep), .int (Int32.ofNat v), .int (Int32.ofNat 16), .int (Int32.ofNat (got + 1)), .int (Int32.ofNat mk), .retAddr 0, .retAddr 0] [] (sI (sA S11 1619 (mk + got) (Int32.ofNat nx)) 97 1592 (Int32.ofNat ((mk + got) + 1))) post) (h3 : (¬ (got = 0)) → ∀ c6 : Nat, (pSee tp sz at0 = c6) → (c6 < 256) → (c6 = 44) → (¬ (got = 16)) → ∀ S27 : zS, (zFin true S27) → (pWant tp sz 44 at0 = .ok (at0 + 1)) → (mFr B nx (mk + got) S S27) → (mP tp sz S27 (at0 + 1) rd nx (mk + got)) → ∀ S29 : zS, ∀ v29 : Nat, (zFin true S29) → (pKey tp sz (at0 + 1) rd = .ok (v29, (at0 + 1) + 1, rd)) → (v29 ≤ 15) → (mFr B nx (mk + got) S27 S29) → (mP tp sz S29 ((at0 + 1) + 1) rd (nx + 1) (mk + got)) → (mKn S29 nx v29) → ((at0 + 1) + 1 ≤ sz) → zEv d 156 30 [.ref 1592, .int (Int32.ofNat 18), .int (Int32.ofNat p), .int (Int32.ofNat deep), .int (Int32.ofNat v), .int (Int32.ofNat 16), .int (Int32.ofNat (got + 1)), .int (Int32.ofNat mk), .retAddr 0, .retAddr 0] [] (sI (sA S29 1619 (mk + got) (Int32.ofNat nx)) 97 1592 (Int32.ofNat ((mk + got) + 1))) post) (h4 : (got = 0) → ∀ S9 : zS, (zFin true S9) → (pWant tp sz 44 at0 = .ok (at0 + 1)) → (mFr B nx (mk + got) S S9) → (mP tp sz S9 (at0 + 1) rd nx (mk + got)) → ∀ S12 : zS, (zFin true S12) → (pKey tp sz (at0 + 1) rd = .error (1, (at0 + 1))) → (mFr B nx (mk + got) S9 S12) → (mX S12 1 (at0 + 1)) → post (.returned (some (.int (-1))), S12)) (h5 : (got = 0) → ∀ S10 : zS, (zFin true S10) → (pWant tp sz 44 at0 = .error (1, at0)) → (mFr B nx (mk + got) S S10) → (mX S10 1 at0) → (mV tp sz S10 at0) → post (.returned (some (.int (-1))), S10)) (h6 : (¬ (got = 0)) → ∀ c6 : Nat, (pSee tp sz at0 = c6) → (c6 < 256) → (c6 = 44) → (¬ (got = 16)) → ∀ S27 : zS, (zFin true S27) → (pWant tp sz 44 at0 = .ok (at0 + 1)) → (mFr B nx (mk + got) S S27) → (mP tp sz S27 (at0 + 1) rd nx (mk + got)) → ∀ S30 : zS, (zFin true S30) → (pKey tp sz (at0 + 1) rd = .error (1, (at0 + 1))) → (mFr B nx (mk + got) S27 S30) → (mX S30 1 (at0 + 1)) → post (.returned (some (.int (-1))), S30)) (h7 : (¬ (got = 0)) → ∀ c6 : Nat, (pSee tp sz at0 = c6) → (c6 < 256) → (c6 = 44) → (¬ (got = 16)) → ∀ S28 : zS, (zFin true S28) → (pWant tp sz 44 at0 = .error (1, at0)) → (mFr B nx (mk + got) S S28) → (mX S28 1 at0) → (mV tp sz S28 at0) → post (.returned (some (.int (-1))), S28)) (h8 : (¬ (got = 0)) → ∀ c6 : Nat, (pSee tp sz at0 = c6) → (c6 < 256) → (c6 = 44) → (got = 16) → ∀ S26 : zS, (zFin true S26) → (mFr B nx (mk + got) S S26) → (mX S26 1 at0) → (mV tp sz S26 at0) → post (.returned (some (.int (-1))), S26)) : zEv d 156 30 [.ref 1592, .int 18, .int (Int32.ofNat p), .int (Int32.ofNat deep), .int (Int32.ofNat v), .int 16, .int (Int32.ofNat got), .int (Int32.ofNat mk), .retAddr 0, .retAddr 0] [] S post := by
  have ht : ztab 156 = ztb156 := rfl
  refine zv_c1 ht rfl rfl ?_
  have C2 : ∀ (pst1 : Outcome × zS → Prop), (pst1 (.returned (some (.int 1)), S)) → zCall (d - 1) 125 [.ref 1592] S pst1 := by
    intro pst1 k4
    have ht3 : ztab 125 = ztb125 := rfl
    show zEv (d - 1) 125 0 [.ref 1592] [] S pst1
    refine zv_c1 ht3 rfl rfl ?_
    refine zv_e1 (x := 0) ht3 rfl rfl hP.1.2.2.1 ?_
    refine zv_br ht3 rfl rfl rfl (fun h => absurd h (by decide)) (fun _ => ?_)
    refine zv_c1 ht3 rfl rfl (zv_c1 ht3 rfl rfl ?_)
    exact zv_rc ht3 rfl rfl rfl rfl (by decide) k4
  refine zv_cl ht rfl rfl rfl rfl (by omega) (Nat.le_of_ble_eq_true rfl) (C2 _ ?_)
  show zEv d 156 34 [.ref 1592, .int 18, .int (Int32.ofNat p), .int (Int32.ofNat deep), .int (Int32.ofNat v), .int 16, .int (Int32.ofNat got), .int (Int32.ofNat mk), .retAddr 0, .retAddr 0] [.int 1] S post
  refine zv_br ht rfl rfl rfl (fun h => absurd h (by decide)) (fun _ => ?_)
  refine zv_c1 ht rfl rfl ?_
  refine zv_br ht rfl rfl rfl (fun b5 => ?_) (fun b5 => ?_)
  · replace b5 : got = 0 := (zi_eqE (a := got) (b := 0) rfl rfl (by omega) (by omega)).mp b5
    refine zv_c1 ht rfl rfl (zv_c1 ht rfl rfl ?_)
    refine zv_br ht rfl rfl rfl (fun b8 => ?_) (fun b8 => (show False from by have hq := b8; have hz : got = 16 := (zi_eqE (a := got) (b := 16) rfl rfl (by omega) (by omega)).mp (Classical.not_not.mp hq); omega).elim)
    refine zv_c1 ht rfl rfl (zv_c1 ht rfl rfl ?_)
    refine zv_cl ht rfl rfl rfl rfl (by omega) (Nat.le_of_ble_eq_true rfl) (m_wantV (S := S) (tp := tp) (sz := sz) (B := B) (w := 44) hF (by omega) hP (by omega) (by omega) (fun S9 hF9 e9 k9 p9 => ?_) (fun S10 hF10 e10 k10 x10 w10 => ?_))
    · show zEv d 156 73 [.ref 1592, .int 18, .int (Int32.ofNat p), .int (Int32.ofNat deep), .int (Int32.ofNat v), .int 16, .int (Int32.ofNat got), .int (Int32.ofNat mk), .retAddr 0, .retAddr 0] [] S9 post
      refine zv_c1 ht rfl rfl (zv_c1 ht rfl rfl ?_)
      refine zv_br ht rfl rfl rfl (fun h => absurd h (by decide)) (fun _ => ?_)
      refine zv_c1 ht rfl rfl ?_
      refine zv_cl ht rfl rfl rfl rfl (by omega) (Nat.le_of_ble_eq_true rfl) (m_keyNode (S := S9) (tp := tp) (sz := sz) (B := B) hF9 (by omega) p9 (by omega) (by omega) (fun S11 v11 hF11 e11 b11 k11 p11 o11 g11 => ?_) (fun S12 hF12 e12 k12 x12 => ?_))
      · show zEv d 156 83 [.ref 1592, .int 18, .int (Int32.ofNat p), .int (Int32.ofNat deep), .int (Int32.ofNat v), .int 16, .int (Int32.ofNat got), .int (Int32.ofNat mk), .retAddr 0, .retAddr 0] [.int (Int32.ofNat nx)] S11 post
        refine zv_c1 ht rfl rfl ?_
        refine zv_c2 (L' := [.ref 1592, .int 18, .int (Int32.ofNat p), .int (Int32.ofNat deep), .int (Int32.ofNat v), .int 16, .int (Int32.ofNat got), .int (Int32.ofNat mk), .int (Int32.ofNat nx), .retAddr 0]) ht rfl rfl ?_
        refine zv_c1 ht rfl rfl ?_
        have C14 : ∀ (pst13 : Outcome × zS → Prop), (pst13 (.returned (some (.int 1)), S11)) → zCall (d - 1) 125 [.ref 1592] S11 pst13 := by
          intro pst13 k16
          have ht15 : ztab 125 = ztb125 := rfl
          show zEv (d - 1) 125 0 [.ref 1592] [] S11 pst13
          refine zv_c1 ht15 rfl rfl ?_
          refine zv_e1 (x := 0) ht15 rfl rfl p11.1.2.2.1 ?_
          refine zv_br ht15 rfl rfl rfl (fun h => absurd h (by decide)) (fun _ => ?_)
          refine zv_c1 ht15 rfl rfl (zv_c1 ht15 rfl rfl ?_)
          exact zv_rc ht15 rfl rfl rfl rfl (by decide) k16
        refine zv_cl ht rfl rfl rfl rfl (by omega) (Nat.le_of_ble_eq_true rfl) (C14 _ ?_)
        show zEv d 156 99 [.ref 1592, .int 18, .int (Int32.ofNat p), .int (Int32.ofNat deep), .int (Int32.ofNat v), .int 16, .int (Int32.ofNat got), .int (Int32.ofNat mk), .int (Int32.ofNat nx), .retAddr 0] [.int 1] S11 post
        refine zv_br ht rfl rfl rfl (fun _ => ?_) (fun h => absurd (by decide) h)
        refine zv_c1 ht rfl rfl ?_
        refine zv_gl (st' := [.ref 1619]) ht rfl hF11 rfl rfl rfl ?_
        refine zv_c1 ht rfl rfl ?_
        refine zv_e1 (x := Int32.ofNat (mk + got)) ht rfl rfl p11.1.2.2.2.2.2 ?_
        refine zv_c1 ht rfl rfl ?_
        refine zv_is (j := mk + got) (x := Int32.ofNat nx) ht rfl rfl rfl rfl (zi_natE (a := mk + got) rfl (by omega)) ⟨rfl, zi_inE (a := mk + got) (n := 2000) rfl (by omega) (by omega)⟩ ?_
        refine zv_c1 ht rfl rfl (zv_c1 ht rfl rfl ?_)
        refine zv_e1 (x := Int32.ofNat (mk + got)) ht rfl rfl p11.1.2.2.2.2.2 ?_
        refine zv_c1 ht rfl rfl ?_
        refine zv_e1 (x := Int32.ofNat ((mk + got) + 1)) ht rfl rfl (zi_addE (a := mk + got) (b := 1) rfl rfl) ?_
        refine zv_c1 (S' := sI (sA S11 1619 (mk + got) (Int32.ofNat nx)) 97 1592 (Int32.ofNat ((mk + got) + 1))) ht rfl rfl ?_
        refine zv_iinc (L' := [.ref 1592, .int 18, .int (Int32.ofNat p), .int (Int32.ofNat deep), .int (Int32.ofNat v), .int 16, .int (Int32.ofNat (got + 1)), .int (Int32.ofNat mk), .int (Int32.ofNat nx), .retAddr 0]) (i := 6) (x := Int32.ofNat (got + 1)) ht rfl rfl (zi_addE (a := got) (b := 1) rfl rfl) rfl ?_
        refine zv_c1 ht rfl rfl ?_
        exact zEv.wk (L := [.ref 1592, .int (Int32.ofNat 18), .int (Int32.ofNat p), .int (Int32.ofNat deep), .int (Int32.ofNat v), .int (Int32.ofNat 16), .int (Int32.ofNat (got + 1)), .int (Int32.ofNat mk), .retAddr 0, .retAddr 0]) (L' := [.ref 1592, .int 18, .int (Int32.ofNat p), .int (Int32.ofNat deep), .int (Int32.ofNat v), .int 16, .int (Int32.ofNat (got + 1)), .int (Int32.ofNat mk), .int (Int32.ofNat nx), .retAddr 0]) (And.intro (Or.inl rfl) (And.intro (Or.inl rfl) (And.intro (Or.inl rfl) (And.intro (Or.inl rfl) (And.intro (Or.inl rfl) (And.intro (Or.inl rfl) (And.intro (Or.inl rfl) (And.intro (Or.inl rfl) (And.intro (Or.inr rfl) (And.intro (Or.inl rfl) trivial)))))))))) (h2 b5 S9 hF9 e9 k9 p9 S11 v11 hF11 e11 b11 k11 p11 o11 g11)
      · show zEv d 156 83 [.ref 1592, .int 18, .int (Int32.ofNat p), .int (Int32.ofNat deep), .int (Int32.ofNat v), .int 16, .int (Int32.ofNat got), .int (Int32.ofNat mk), .retAddr 0, .retAddr 0] [.int (-1)] S12 post
        refine zv_c1 ht rfl rfl ?_
        refine zv_c2 (L' := [.ref 1592, .int 18, .int (Int32.ofNat p), .int (Int32.ofNat deep), .int (Int32.ofNat v), .int 16, .int (Int32.ofNat got), .int (Int32.ofNat mk), .int (-1), .retAddr 0]) ht rfl rfl ?_
        refine zv_c1 ht rfl rfl ?_
        have C18 : ∀ (pst17 : Outcome × zS → Prop), (pst17 (.returned (some (.int 0)), S12)) → zCall (d - 1) 125 [.ref 1592] S12 pst17 := by
          intro pst17 k20
          have ht19 : ztab 125 = ztb125 := rfl
          show zEv (d - 1) 125 0 [.ref 1592] [] S12 pst17
          refine zv_c1 ht19 rfl rfl ?_
          refine zv_e1 (x := 1) ht19 rfl rfl x12.1 ?_
          refine zv_br ht19 rfl rfl rfl (fun _ => ?_) (fun h => absurd (by decide) h)
          refine zv_c1 ht19 rfl rfl ?_
          exact zv_rc ht19 rfl rfl rfl rfl (by decide) k20
        refine zv_cl ht rfl rfl rfl rfl (by omega) (Nat.le_of_ble_eq_true rfl) (C18 _ ?_)
        show zEv d 156 99 [.ref 1592, .int 18, .int (Int32.ofNat p), .int (Int32.ofNat deep), .int (Int32.ofNat v), .int 16, .int (Int32.ofNat got), .int (Int32.ofNat mk), .int (-1), .retAddr 0] [.int 0] S12 post
        refine zv_br ht rfl rfl rfl (fun h => absurd h (by decide)) (fun _ => ?_)
        refine zv_c1 ht rfl rfl ?_
        exact zv_rt ht rfl rfl rfl rfl (h4 b5 S9 hF9 e9 k9 p9 S12 hF12 e12 k12 x12)
    · show zEv d 156 73 [.ref 1592, .int 18, .int (Int32.ofNat p), .int (Int32.ofNat deep), .int (Int32.ofNat v), .int 16, .int (Int32.ofNat got), .int (Int32.ofNat mk), .retAddr 0, .retAddr 0] [] S10 post
      refine zv_c1 ht rfl rfl (zv_c1 ht rfl rfl ?_)
      refine zv_br ht rfl rfl rfl (fun h => absurd h (by decide)) (fun _ => ?_)
      refine zv_c1 ht rfl rfl ?_
      refine zv_cl ht rfl rfl rfl rfl (by omega) (Nat.le_of_ble_eq_true rfl) (m_keyNodeX (S := S10) hF10 (by omega) x10 w10 ?_)
      show zEv d 156 83 [.ref 1592, .int 18, .int (Int32.ofNat p), .int (Int32.ofNat deep), .int (Int32.ofNat v), .int 16, .int (Int32.ofNat got), .int (Int32.ofNat mk), .retAddr 0, .retAddr 0] [.int (-1)] S10 post
      refine zv_c1 ht rfl rfl ?_
      refine zv_c2 (L' := [.ref 1592, .int 18, .int (Int32.ofNat p), .int (Int32.ofNat deep), .int (Int32.ofNat v), .int 16, .int (Int32.ofNat got), .int (Int32.ofNat mk), .int (-1), .retAddr 0]) ht rfl rfl ?_
      refine zv_c1 ht rfl rfl ?_
      have C22 : ∀ (pst21 : Outcome × zS → Prop), (pst21 (.returned (some (.int 0)), S10)) → zCall (d - 1) 125 [.ref 1592] S10 pst21 := by
        intro pst21 k24
        have ht23 : ztab 125 = ztb125 := rfl
        show zEv (d - 1) 125 0 [.ref 1592] [] S10 pst21
        refine zv_c1 ht23 rfl rfl ?_
        refine zv_e1 (x := 1) ht23 rfl rfl x10.1 ?_
        refine zv_br ht23 rfl rfl rfl (fun _ => ?_) (fun h => absurd (by decide) h)
        refine zv_c1 ht23 rfl rfl ?_
        exact zv_rc ht23 rfl rfl rfl rfl (by decide) k24
      refine zv_cl ht rfl rfl rfl rfl (by omega) (Nat.le_of_ble_eq_true rfl) (C22 _ ?_)
      show zEv d 156 99 [.ref 1592, .int 18, .int (Int32.ofNat p), .int (Int32.ofNat deep), .int (Int32.ofNat v), .int 16, .int (Int32.ofNat got), .int (Int32.ofNat mk), .int (-1), .retAddr 0] [.int 0] S10 post
      refine zv_br ht rfl rfl rfl (fun h => absurd h (by decide)) (fun _ => ?_)
      refine zv_c1 ht rfl rfl ?_
      exact zv_rt ht rfl rfl rfl rfl (h5 b5 S10 hF10 e10 k10 x10 w10)
  · replace b5 : ¬ (got = 0) := fun h => b5 ((zi_eqE (a := got) (b := 0) rfl rfl (by omega) (by omega)).mpr h)
    refine zv_c1 ht rfl rfl ?_
    refine zv_cl ht rfl rfl rfl rfl (by omega) (Nat.le_of_ble_eq_true rfl) (m_seeP (S := S) (tp := tp) (sz := sz) hF (by omega) hP (fun c6 e6 b6 => ?_))
    show zEv d 156 46 [.ref 1592, .int 18, .int (Int32.ofNat p), .int (Int32.ofNat deep), .int (Int32.ofNat v), .int 16, .int (Int32.ofNat got), .int (Int32.ofNat mk), .retAddr 0, .retAddr 0] [.int (Int32.ofNat c6)] S post
    refine zv_c1 ht rfl rfl ?_
    refine zv_br ht rfl rfl rfl (fun b7 => ?_) (fun b7 => ?_)
    · replace b7 : ¬ (c6 = 44) := fun h => b7 ((zi_eqE (a := c6) (b := 44) rfl rfl (by omega) (by omega)).mpr h)
      exact zEv.wk (L := [.ref 1592, .int (Int32.ofNat 18), .int (Int32.ofNat p), .retAddr 0, .int (Int32.ofNat v), .retAddr 0, .int (Int32.ofNat got), .int (Int32.ofNat mk), .retAddr 0, .retAddr 0]) (L' := [.ref 1592, .int 18, .int (Int32.ofNat p), .int (Int32.ofNat deep), .int (Int32.ofNat v), .int 16, .int (Int32.ofNat got), .int (Int32.ofNat mk), .retAddr 0, .retAddr 0]) (And.intro (Or.inl rfl) (And.intro (Or.inl rfl) (And.intro (Or.inl rfl) (And.intro (Or.inr rfl) (And.intro (Or.inl rfl) (And.intro (Or.inr rfl) (And.intro (Or.inl rfl) (And.intro (Or.inl rfl) (And.intro (Or.inl rfl) (And.intro (Or.inl rfl) trivial)))))))))) (h1 b5 c6 e6 b6 b7)
    · replace b7 : c6 = 44 := (zi_eqE (a := c6) (b := 44) rfl rfl (by omega) (by omega)).mp (Classical.not_not.mp b7)
      refine zv_c1 ht rfl rfl (zv_c1 ht rfl rfl ?_)
      refine zv_br ht rfl rfl rfl (fun b25 => ?_) (fun b25 => ?_)
      · replace b25 : ¬ (got = 16) := fun h => b25 ((zi_eqE (a := got) (b := 16) rfl rfl (by omega) (by omega)).mpr h)
        refine zv_c1 ht rfl rfl (zv_c1 ht rfl rfl ?_)
        refine zv_cl ht rfl rfl rfl rfl (by omega) (Nat.le_of_ble_eq_true rfl) (m_wantV (S := S) (tp := tp) (sz := sz) (B := B) (w := 44) hF (by omega) hP (by omega) (by omega) (fun S27 hF27 e27 k27 p27 => ?_) (fun S28 hF28 e28 k28 x28 w28 => ?_))
        · show zEv d 156 73 [.ref 1592, .int 18, .int (Int32.ofNat p), .int (Int32.ofNat deep), .int (Int32.ofNat v), .int 16, .int (Int32.ofNat got), .int (Int32.ofNat mk), .retAddr 0, .retAddr 0] [] S27 post
          refine zv_c1 ht rfl rfl (zv_c1 ht rfl rfl ?_)
          refine zv_br ht rfl rfl rfl (fun h => absurd h (by decide)) (fun _ => ?_)
          refine zv_c1 ht rfl rfl ?_
          refine zv_cl ht rfl rfl rfl rfl (by omega) (Nat.le_of_ble_eq_true rfl) (m_keyNode (S := S27) (tp := tp) (sz := sz) (B := B) hF27 (by omega) p27 (by omega) (by omega) (fun S29 v29 hF29 e29 b29 k29 p29 o29 g29 => ?_) (fun S30 hF30 e30 k30 x30 => ?_))
          · show zEv d 156 83 [.ref 1592, .int 18, .int (Int32.ofNat p), .int (Int32.ofNat deep), .int (Int32.ofNat v), .int 16, .int (Int32.ofNat got), .int (Int32.ofNat mk), .retAddr 0, .retAddr 0] [.int (Int32.ofNat nx)] S29 post
            refine zv_c1 ht rfl rfl ?_
            refine zv_c2 (L' := [.ref 1592, .int 18, .int (Int32.ofNat p), .int (Int32.ofNat deep), .int (Int32.ofNat v), .int 16, .int (Int32.ofNat got), .int (Int32.ofNat mk), .int (Int32.ofNat nx), .retAddr 0]) ht rfl rfl ?_
            refine zv_c1 ht rfl rfl ?_
            have C32 : ∀ (pst31 : Outcome × zS → Prop), (pst31 (.returned (some (.int 1)), S29)) → zCall (d - 1) 125 [.ref 1592] S29 pst31 := by
              intro pst31 k34
              have ht33 : ztab 125 = ztb125 := rfl
              show zEv (d - 1) 125 0 [.ref 1592] [] S29 pst31
              refine zv_c1 ht33 rfl rfl ?_
              refine zv_e1 (x := 0) ht33 rfl rfl p29.1.2.2.1 ?_
              refine zv_br ht33 rfl rfl rfl (fun h => absurd h (by decide)) (fun _ => ?_)
              refine zv_c1 ht33 rfl rfl (zv_c1 ht33 rfl rfl ?_)
              exact zv_rc ht33 rfl rfl rfl rfl (by decide) k34
            refine zv_cl ht rfl rfl rfl rfl (by omega) (Nat.le_of_ble_eq_true rfl) (C32 _ ?_)
            show zEv d 156 99 [.ref 1592, .int 18, .int (Int32.ofNat p), .int (Int32.ofNat deep), .int (Int32.ofNat v), .int 16, .int (Int32.ofNat got), .int (Int32.ofNat mk), .int (Int32.ofNat nx), .retAddr 0] [.int 1] S29 post
            refine zv_br ht rfl rfl rfl (fun _ => ?_) (fun h => absurd (by decide) h)
            refine zv_c1 ht rfl rfl ?_
            refine zv_gl (st' := [.ref 1619]) ht rfl hF29 rfl rfl rfl ?_
            refine zv_c1 ht rfl rfl ?_
            refine zv_e1 (x := Int32.ofNat (mk + got)) ht rfl rfl p29.1.2.2.2.2.2 ?_
            refine zv_c1 ht rfl rfl ?_
            refine zv_is (j := mk + got) (x := Int32.ofNat nx) ht rfl rfl rfl rfl (zi_natE (a := mk + got) rfl (by omega)) ⟨rfl, zi_inE (a := mk + got) (n := 2000) rfl (by omega) (by omega)⟩ ?_
            refine zv_c1 ht rfl rfl (zv_c1 ht rfl rfl ?_)
            refine zv_e1 (x := Int32.ofNat (mk + got)) ht rfl rfl p29.1.2.2.2.2.2 ?_
            refine zv_c1 ht rfl rfl ?_
            refine zv_e1 (x := Int32.ofNat ((mk + got) + 1)) ht rfl rfl (zi_addE (a := mk + got) (b := 1) rfl rfl) ?_
            refine zv_c1 (S' := sI (sA S29 1619 (mk + got) (Int32.ofNat nx)) 97 1592 (Int32.ofNat ((mk + got) + 1))) ht rfl rfl ?_
            refine zv_iinc (L' := [.ref 1592, .int 18, .int (Int32.ofNat p), .int (Int32.ofNat deep), .int (Int32.ofNat v), .int 16, .int (Int32.ofNat (got + 1)), .int (Int32.ofNat mk), .int (Int32.ofNat nx), .retAddr 0]) (i := 6) (x := Int32.ofNat (got + 1)) ht rfl rfl (zi_addE (a := got) (b := 1) rfl rfl) rfl ?_
            refine zv_c1 ht rfl rfl ?_
            exact zEv.wk (L := [.ref 1592, .int (Int32.ofNat 18), .int (Int32.ofNat p), .int (Int32.ofNat deep), .int (Int32.ofNat v), .int (Int32.ofNat 16), .int (Int32.ofNat (got + 1)), .int (Int32.ofNat mk), .retAddr 0, .retAddr 0]) (L' := [.ref 1592, .int 18, .int (Int32.ofNat p), .int (Int32.ofNat deep), .int (Int32.ofNat v), .int 16, .int (Int32.ofNat (got + 1)), .int (Int32.ofNat mk), .int (Int32.ofNat nx), .retAddr 0]) (And.intro (Or.inl rfl) (And.intro (Or.inl rfl) (And.intro (Or.inl rfl) (And.intro (Or.inl rfl) (And.intro (Or.inl rfl) (And.intro (Or.inl rfl) (And.intro (Or.inl rfl) (And.intro (Or.inl rfl) (And.intro (Or.inr rfl) (And.intro (Or.inl rfl) trivial)))))))))) (h3 b5 c6 e6 b6 b7 b25 S27 hF27 e27 k27 p27 S29 v29 hF29 e29 b29 k29 p29 o29 g29)
          · show zEv d 156 83 [.ref 1592, .int 18, .int (Int32.ofNat p), .int (Int32.ofNat deep), .int (Int32.ofNat v), .int 16, .int (Int32.ofNat got), .int (Int32.ofNat mk), .retAddr 0, .retAddr 0] [.int (-1)] S30 post
            refine zv_c1 ht rfl rfl ?_
            refine zv_c2 (L' := [.ref 1592, .int 18, .int (Int32.ofNat p), .int (Int32.ofNat deep), .int (Int32.ofNat v), .int 16, .int (Int32.ofNat got), .int (Int32.ofNat mk), .int (-1), .retAddr 0]) ht rfl rfl ?_
            refine zv_c1 ht rfl rfl ?_
            have C36 : ∀ (pst35 : Outcome × zS → Prop), (pst35 (.returned (some (.int 0)), S30)) → zCall (d - 1) 125 [.ref 1592] S30 pst35 := by
              intro pst35 k38
              have ht37 : ztab 125 = ztb125 := rfl
              show zEv (d - 1) 125 0 [.ref 1592] [] S30 pst35
              refine zv_c1 ht37 rfl rfl ?_
              refine zv_e1 (x := 1) ht37 rfl rfl x30.1 ?_
              refine zv_br ht37 rfl rfl rfl (fun _ => ?_) (fun h => absurd (by decide) h)
              refine zv_c1 ht37 rfl rfl ?_
              exact zv_rc ht37 rfl rfl rfl rfl (by decide) k38
            refine zv_cl ht rfl rfl rfl rfl (by omega) (Nat.le_of_ble_eq_true rfl) (C36 _ ?_)
            show zEv d 156 99 [.ref 1592, .int 18, .int (Int32.ofNat p), .int (Int32.ofNat deep), .int (Int32.ofNat v), .int 16, .int (Int32.ofNat got), .int (Int32.ofNat mk), .int (-1), .retAddr 0] [.int 0] S30 post
            refine zv_br ht rfl rfl rfl (fun h => absurd h (by decide)) (fun _ => ?_)
            refine zv_c1 ht rfl rfl ?_
            exact zv_rt ht rfl rfl rfl rfl (h6 b5 c6 e6 b6 b7 b25 S27 hF27 e27 k27 p27 S30 hF30 e30 k30 x30)
        · show zEv d 156 73 [.ref 1592, .int 18, .int (Int32.ofNat p), .int (Int32.ofNat deep), .int (Int32.ofNat v), .int 16, .int (Int32.ofNat got), .int (Int32.ofNat mk), .retAddr 0, .retAddr 0] [] S28 post
          refine zv_c1 ht rfl rfl (zv_c1 ht rfl rfl ?_)
          refine zv_br ht rfl rfl rfl (fun h => absurd h (by decide)) (fun _ => ?_)
          refine zv_c1 ht rfl rfl ?_
          refine zv_cl ht rfl rfl rfl rfl (by omega) (Nat.le_of_ble_eq_true rfl) (m_keyNodeX (S := S28) hF28 (by omega) x28 w28 ?_)
          show zEv d 156 83 [.ref 1592, .int 18, .int (Int32.ofNat p), .int (Int32.ofNat deep), .int (Int32.ofNat v), .int 16, .int (Int32.ofNat got), .int (Int32.ofNat mk), .retAddr 0, .retAddr 0] [.int (-1)] S28 post
          refine zv_c1 ht rfl rfl ?_
          refine zv_c2 (L' := [.ref 1592, .int 18, .int (Int32.ofNat p), .int (Int32.ofNat deep), .int (Int32.ofNat v), .int 16, .int (Int32.ofNat got), .int (Int32.ofNat mk), .int (-1), .retAddr 0]) ht rfl rfl ?_
          refine zv_c1 ht rfl rfl ?_
          have C40 : ∀ (pst39 : Outcome × zS → Prop), (pst39 (.returned (some (.int 0)), S28)) → zCall (d - 1) 125 [.ref 1592] S28 pst39 := by
            intro pst39 k42
            have ht41 : ztab 125 = ztb125 := rfl
            show zEv (d - 1) 125 0 [.ref 1592] [] S28 pst39
            refine zv_c1 ht41 rfl rfl ?_
            refine zv_e1 (x := 1) ht41 rfl rfl x28.1 ?_
            refine zv_br ht41 rfl rfl rfl (fun _ => ?_) (fun h => absurd (by decide) h)
            refine zv_c1 ht41 rfl rfl ?_
            exact zv_rc ht41 rfl rfl rfl rfl (by decide) k42
          refine zv_cl ht rfl rfl rfl rfl (by omega) (Nat.le_of_ble_eq_true rfl) (C40 _ ?_)
          show zEv d 156 99 [.ref 1592, .int 18, .int (Int32.ofNat p), .int (Int32.ofNat deep), .int (Int32.ofNat v), .int 16, .int (Int32.ofNat got), .int (Int32.ofNat mk), .int (-1), .retAddr 0] [.int 0] S28 post
          refine zv_br ht rfl rfl rfl (fun h => absurd h (by decide)) (fun _ => ?_)
          refine zv_c1 ht rfl rfl ?_
          exact zv_rt ht rfl rfl rfl rfl (h7 b5 c6 e6 b6 b7 b25 S28 hF28 e28 k28 x28 w28)
      · replace b25 : got = 16 := (zi_eqE (a := got) (b := 16) rfl rfl (by omega) (by omega)).mp (Classical.not_not.mp b25)
        refine zv_c1 ht rfl rfl (zv_c1 ht rfl rfl (zv_c1 ht rfl rfl ?_))
        refine zv_e1 (x := Int32.ofNat at0) ht rfl rfl hP.1.1 ?_
        refine zv_cl ht rfl rfl rfl rfl (by omega) (Nat.le_of_ble_eq_true rfl) (m_fails (S := S) (tp := tp) (sz := sz) (B := B) (f := 1) (p := at0) hF hP (by omega) (by omega) (fun S26 hF26 k26 x26 w26 => ?_))
        show zEv d 156 67 [.ref 1592, .int 18, .int (Int32.ofNat p), .int (Int32.ofNat deep), .int (Int32.ofNat v), .int 16, .int (Int32.ofNat got), .int (Int32.ofNat mk), .retAddr 0, .retAddr 0] [] S26 post
        refine zv_c1 ht rfl rfl (zv_c1 ht rfl rfl ?_)
        refine zv_cl ht rfl rfl rfl rfl (by omega) (Nat.le_of_ble_eq_true rfl) (m_wantX (S := S26) (w := 44) hF26 (by omega) x26 (by omega) ?_)
        show zEv d 156 73 [.ref 1592, .int 18, .int (Int32.ofNat p), .int (Int32.ofNat deep), .int (Int32.ofNat v), .int 16, .int (Int32.ofNat got), .int (Int32.ofNat mk), .retAddr 0, .retAddr 0] [] S26 post
        refine zv_c1 ht rfl rfl (zv_c1 ht rfl rfl ?_)
        refine zv_br ht rfl rfl rfl (fun h => absurd h (by decide)) (fun _ => ?_)
        refine zv_c1 ht rfl rfl ?_
        refine zv_cl ht rfl rfl rfl rfl (by omega) (Nat.le_of_ble_eq_true rfl) (m_keyNodeX (S := S26) hF26 (by omega) x26 w26 ?_)
        show zEv d 156 83 [.ref 1592, .int 18, .int (Int32.ofNat p), .int (Int32.ofNat deep), .int (Int32.ofNat v), .int 16, .int (Int32.ofNat got), .int (Int32.ofNat mk), .retAddr 0, .retAddr 0] [.int (-1)] S26 post
        refine zv_c1 ht rfl rfl ?_
        refine zv_c2 (L' := [.ref 1592, .int 18, .int (Int32.ofNat p), .int (Int32.ofNat deep), .int (Int32.ofNat v), .int 16, .int (Int32.ofNat got), .int (Int32.ofNat mk), .int (-1), .retAddr 0]) ht rfl rfl ?_
        refine zv_c1 ht rfl rfl ?_
        have C44 : ∀ (pst43 : Outcome × zS → Prop), (pst43 (.returned (some (.int 0)), S26)) → zCall (d - 1) 125 [.ref 1592] S26 pst43 := by
          intro pst43 k46
          have ht45 : ztab 125 = ztb125 := rfl
          show zEv (d - 1) 125 0 [.ref 1592] [] S26 pst43
          refine zv_c1 ht45 rfl rfl ?_
          refine zv_e1 (x := 1) ht45 rfl rfl x26.1 ?_
          refine zv_br ht45 rfl rfl rfl (fun _ => ?_) (fun h => absurd (by decide) h)
          refine zv_c1 ht45 rfl rfl ?_
          exact zv_rc ht45 rfl rfl rfl rfl (by decide) k46
        refine zv_cl ht rfl rfl rfl rfl (by omega) (Nat.le_of_ble_eq_true rfl) (C44 _ ?_)
        show zEv d 156 99 [.ref 1592, .int 18, .int (Int32.ofNat p), .int (Int32.ofNat deep), .int (Int32.ofNat v), .int 16, .int (Int32.ofNat got), .int (Int32.ofNat mk), .int (-1), .retAddr 0] [.int 0] S26 post
        refine zv_br ht rfl rfl rfl (fun h => absurd h (by decide)) (fun _ => ?_)
        refine zv_c1 ht rfl rfl ?_
        exact zv_rt ht rfl rfl rfl rfl (h8 b5 c6 e6 b6 b7 b25 S26 hF26 k26 x26 w26)

theorem se17 {d : Nat} {S : zS} (hF : zFin true S) (hd : 3 ≤ d) {tp : Nat → Nat} {sz at0 rd nx mk B : Nat} {rec : Nat → Nat → Nat → pE (zNd × Nat × Nat)} (p deep v got : Nat)  (hP : mP tp sz S at0 rd nx (mk + got)) (hp : p ≤ 300) (hdp : deep < 2000) (hrd : rd ≤ 80) (hs0 : sz ≤ 300) (ha0 : at0 ≤ sz) (hB : nx + 2 * (sz - at0) + 3 ≤ B) (hB3 : B ≤ 3000) (hv : v < 2147483648) (hmk : mk + got + (sz - at0) ≤ 2000) (hg : got ≤ 12) {post : Outcome × zS → Prop} (h1 : ∀ c5 : Nat, (pSee tp sz at0 = c5) → (c5 < 256) → ((¬ (c5 = 41)) ∨ (v ≤ got)) → ∀ S11 : zS, (zFin true S11) → (pWant tp sz 41 at0 = .ok (at0 + 1)) → (mFr B nx (mk + got) S S11) → (mP tp sz S11 (at0 + 1) rd nx (mk + got)) → ∀ S17 : zS, (zFin true S17) → (mFr B nx (mk + got) S11 S17) → (mP tp sz S17 (at0 + 1) rd (nx + 1) (mk + got)) → (mOp S17 nx 17 v p []) → zEv d 156 192 [.ref 1592, .retAddr 0, .retAddr 0, .retAddr 0, .retAddr 0, .retAddr 0, .retAddr 0, .int (Int32.ofNat mk), .int (Int32.ofNat nx), .int (Int32.ofNat mk)] [] S17 post) (h2 : ∀ c5 : Nat, (pSee tp sz at0 = c5) → (c5 < 256) → ((¬ (c5 = 41)) ∨ (v ≤ got)) → ∀ S12 : zS, (zFin true S12) → (pWant tp sz 41 at0 = .error (1, at0)) → (mFr B nx (mk + got) S S12) → (mX S12 1 at0) → post (.returned (some (.int (-1))), S12)) (h3 : ∀ c5 : Nat, (pSee tp sz at0 = c5) → (c5 < 256) → (c5 = 41) → (¬ (v ≤ got)) → ∀ S8 : zS, (zFin true S8) → (mFr B nx (mk + got) S S8) → (mX S8 1 at0) → (mV tp sz S8 at0) → post (.returned (some (.int (-1))), S8)) : zEv d 156 131 [.ref 1592, .int 17, .int (Int32.ofNat p), .retAddr 0, .int (Int32.ofNat v), .retAddr 0, .int (Int32.ofNat got), .int (Int32.ofNat mk), .retAddr 0, .retAddr 0] [] S post := by
  have ht : ztab 156 = ztb156 := rfl
  refine zv_c1 ht rfl rfl ?_
  have C2 : ∀ (pst1 : Outcome × zS → Prop), (pst1 (.returned (some (.int 1)), S)) → zCall (d - 1) 125 [.ref 1592] S pst1 := by
    intro pst1 k4
    have ht3 : ztab 125 = ztb125 := rfl
    show zEv (d - 1) 125 0 [.ref 1592] [] S pst1
    refine zv_c1 ht3 rfl rfl ?_
    refine zv_e1 (x := 0) ht3 rfl rfl hP.1.2.2.1 ?_
    refine zv_br ht3 rfl rfl rfl (fun h => absurd h (by decide)) (fun _ => ?_)
    refine zv_c1 ht3 rfl rfl (zv_c1 ht3 rfl rfl ?_)
    exact zv_rc ht3 rfl rfl rfl rfl (by decide) k4
  refine zv_cl ht rfl rfl rfl rfl (by omega) (Nat.le_of_ble_eq_true rfl) (C2 _ ?_)
  show zEv d 156 135 [.ref 1592, .int 17, .int (Int32.ofNat p), .retAddr 0, .int (Int32.ofNat v), .retAddr 0, .int (Int32.ofNat got), .int (Int32.ofNat mk), .retAddr 0, .retAddr 0] [.int 1] S post
  refine zv_br ht rfl rfl rfl (fun h => absurd h (by decide)) (fun _ => ?_)
  refine zv_c1 ht rfl rfl ?_
  refine zv_cl ht rfl rfl rfl rfl (by omega) (Nat.le_of_ble_eq_true rfl) (m_seeP (S := S) (tp := tp) (sz := sz) hF (by omega) hP (fun c5 e5 b5 => ?_))
  show zEv d 156 142 [.ref 1592, .int 17, .int (Int32.ofNat p), .retAddr 0, .int (Int32.ofNat v), .retAddr 0, .int (Int32.ofNat got), .int (Int32.ofNat mk), .retAddr 0, .retAddr 0] [.int (Int32.ofNat c5)] S post
  refine zv_c1 ht rfl rfl ?_
  have J9 : ((¬ (c5 = 41)) ∨ (v ≤ got)) → zEv d 156 163 [.ref 1592, .int 17, .int (Int32.ofNat p), .retAddr 0, .int (Int32.ofNat v), .retAddr 0, .retAddr 0, .int (Int32.ofNat mk), .retAddr 0, .retAddr 0] [] S post := by
    intro b10
    refine zv_c1 ht rfl rfl (zv_c1 ht rfl rfl ?_)
    refine zv_cl ht rfl rfl rfl rfl (by omega) (Nat.le_of_ble_eq_true rfl) (m_want (S := S) (tp := tp) (sz := sz) (B := B) (w := 41) hF (by omega) hP (by omega) (by omega) (fun S11 hF11 e11 k11 p11 => ?_) (fun S12 hF12 e12 k12 x12 => ?_))
    · show zEv d 156 169 [.ref 1592, .int 17, .int (Int32.ofNat p), .retAddr 0, .int (Int32.ofNat v), .retAddr 0, .retAddr 0, .int (Int32.ofNat mk), .retAddr 0, .retAddr 0] [] S11 post
      refine zv_c1 ht rfl rfl ?_
      have C14 : ∀ (pst13 : Outcome × zS → Prop), (pst13 (.returned (some (.int 1)), S11)) → zCall (d - 1) 125 [.ref 1592] S11 pst13 := by
        intro pst13 k16
        have ht15 : ztab 125 = ztb125 := rfl
        show zEv (d - 1) 125 0 [.ref 1592] [] S11 pst13
        refine zv_c1 ht15 rfl rfl ?_
        refine zv_e1 (x := 0) ht15 rfl rfl p11.1.2.2.1 ?_
        refine zv_br ht15 rfl rfl rfl (fun h => absurd h (by decide)) (fun _ => ?_)
        refine zv_c1 ht15 rfl rfl (zv_c1 ht15 rfl rfl ?_)
        exact zv_rc ht15 rfl rfl rfl rfl (by decide) k16
      refine zv_cl ht rfl rfl rfl rfl (by omega) (Nat.le_of_ble_eq_true rfl) (C14 _ ?_)
      show zEv d 156 173 [.ref 1592, .int 17, .int (Int32.ofNat p), .retAddr 0, .int (Int32.ofNat v), .retAddr 0, .retAddr 0, .int (Int32.ofNat mk), .retAddr 0, .retAddr 0] [.int 1] S11 post
      refine zv_br ht rfl rfl rfl (fun _ => ?_) (fun h => absurd (by decide) h)
      refine zv_c1 ht rfl rfl (zv_c1 ht rfl rfl (zv_c1 ht rfl rfl (zv_c1 ht rfl rfl ?_)))
      refine zv_cl ht rfl rfl rfl rfl (by omega) (Nat.le_of_ble_eq_true rfl) (m_node (S := S11) (tp := tp) (sz := sz) (B := B) (k := 17) (v := v) (p := p) hF11 p11 (by omega) (by omega) (by omega) (by omega) (by omega) (fun S17 hF17 k17 p17 o17 => ?_))
      show zEv d 156 186 [.ref 1592, .int 17, .int (Int32.ofNat p), .retAddr 0, .int (Int32.ofNat v), .retAddr 0, .retAddr 0, .int (Int32.ofNat mk), .retAddr 0, .retAddr 0] [.int (Int32.ofNat nx)] S17 post
      refine zv_c2 (L' := [.ref 1592, .int 17, .int (Int32.ofNat p), .retAddr 0, .int (Int32.ofNat v), .retAddr 0, .retAddr 0, .int (Int32.ofNat mk), .int (Int32.ofNat nx), .retAddr 0]) ht rfl rfl ?_
      refine zv_c1 ht rfl rfl ?_
      refine zv_c2 (L' := [.ref 1592, .int 17, .int (Int32.ofNat p), .retAddr 0, .int (Int32.ofNat v), .retAddr 0, .retAddr 0, .int (Int32.ofNat mk), .int (Int32.ofNat nx), .int (Int32.ofNat mk)]) ht rfl rfl ?_
      exact zEv.wk (L := [.ref 1592, .retAddr 0, .retAddr 0, .retAddr 0, .retAddr 0, .retAddr 0, .retAddr 0, .int (Int32.ofNat mk), .int (Int32.ofNat nx), .int (Int32.ofNat mk)]) (L' := [.ref 1592, .int 17, .int (Int32.ofNat p), .retAddr 0, .int (Int32.ofNat v), .retAddr 0, .retAddr 0, .int (Int32.ofNat mk), .int (Int32.ofNat nx), .int (Int32.ofNat mk)]) (And.intro (Or.inl rfl) (And.intro (Or.inr rfl) (And.intro (Or.inr rfl) (And.intro (Or.inl rfl) (And.intro (Or.inr rfl) (And.intro (Or.inl rfl) (And.intro (Or.inl rfl) (And.intro (Or.inl rfl) (And.intro (Or.inl rfl) (And.intro (Or.inl rfl) trivial)))))))))) (h1 c5 e5 b5 b10 S11 hF11 e11 k11 p11 S17 hF17 k17 p17 o17)
    · show zEv d 156 169 [.ref 1592, .int 17, .int (Int32.ofNat p), .retAddr 0, .int (Int32.ofNat v), .retAddr 0, .retAddr 0, .int (Int32.ofNat mk), .retAddr 0, .retAddr 0] [] S12 post
      refine zv_c1 ht rfl rfl ?_
      have C19 : ∀ (pst18 : Outcome × zS → Prop), (pst18 (.returned (some (.int 0)), S12)) → zCall (d - 1) 125 [.ref 1592] S12 pst18 := by
        intro pst18 k21
        have ht20 : ztab 125 = ztb125 := rfl
        show zEv (d - 1) 125 0 [.ref 1592] [] S12 pst18
        refine zv_c1 ht20 rfl rfl ?_
        refine zv_e1 (x := 1) ht20 rfl rfl x12.1 ?_
        refine zv_br ht20 rfl rfl rfl (fun _ => ?_) (fun h => absurd (by decide) h)
        refine zv_c1 ht20 rfl rfl ?_
        exact zv_rc ht20 rfl rfl rfl rfl (by decide) k21
      refine zv_cl ht rfl rfl rfl rfl (by omega) (Nat.le_of_ble_eq_true rfl) (C19 _ ?_)
      show zEv d 156 173 [.ref 1592, .int 17, .int (Int32.ofNat p), .retAddr 0, .int (Int32.ofNat v), .retAddr 0, .retAddr 0, .int (Int32.ofNat mk), .retAddr 0, .retAddr 0] [.int 0] S12 post
      refine zv_br ht rfl rfl rfl (fun h => absurd h (by decide)) (fun _ => ?_)
      refine zv_c1 ht rfl rfl ?_
      exact zv_rt ht rfl rfl rfl rfl (h2 c5 e5 b5 b10 S12 hF12 e12 k12 x12)
  refine zv_br ht rfl rfl rfl (fun b6 => ?_) (fun b6 => ?_)
  · replace b6 : ¬ (c5 = 41) := fun h => b6 ((zi_eqE (a := c5) (b := 41) rfl rfl (by omega) (by omega)).mpr h)
    exact zEv.wk (L := [.ref 1592, .int 17, .int (Int32.ofNat p), .retAddr 0, .int (Int32.ofNat v), .retAddr 0, .retAddr 0, .int (Int32.ofNat mk), .retAddr 0, .retAddr 0]) (L' := [.ref 1592, .int 17, .int (Int32.ofNat p), .retAddr 0, .int (Int32.ofNat v), .retAddr 0, .int (Int32.ofNat got), .int (Int32.ofNat mk), .retAddr 0, .retAddr 0]) (And.intro (Or.inl rfl) (And.intro (Or.inl rfl) (And.intro (Or.inl rfl) (And.intro (Or.inl rfl) (And.intro (Or.inl rfl) (And.intro (Or.inl rfl) (And.intro (Or.inr rfl) (And.intro (Or.inl rfl) (And.intro (Or.inl rfl) (And.intro (Or.inl rfl) trivial)))))))))) (J9 (Or.inl b6))
  · replace b6 : c5 = 41 := (zi_eqE (a := c5) (b := 41) rfl rfl (by omega) (by omega)).mp (Classical.not_not.mp b6)
    refine zv_c1 ht rfl rfl (zv_c1 ht rfl rfl ?_)
    refine zv_br ht rfl rfl rfl (fun b7 => ?_) (fun b7 => ?_)
    · replace b7 : v ≤ got := (zi_leE (a := v) (b := got) rfl rfl (by omega) (by omega)).mp b7
      exact zEv.wk (L := [.ref 1592, .int 17, .int (Int32.ofNat p), .retAddr 0, .int (Int32.ofNat v), .retAddr 0, .retAddr 0, .int (Int32.ofNat mk), .retAddr 0, .retAddr 0]) (L' := [.ref 1592, .int 17, .int (Int32.ofNat p), .retAddr 0, .int (Int32.ofNat v), .retAddr 0, .int (Int32.ofNat got), .int (Int32.ofNat mk), .retAddr 0, .retAddr 0]) (And.intro (Or.inl rfl) (And.intro (Or.inl rfl) (And.intro (Or.inl rfl) (And.intro (Or.inl rfl) (And.intro (Or.inl rfl) (And.intro (Or.inl rfl) (And.intro (Or.inr rfl) (And.intro (Or.inl rfl) (And.intro (Or.inl rfl) (And.intro (Or.inl rfl) trivial)))))))))) (J9 (Or.inr b7))
    · replace b7 : ¬ (v ≤ got) := fun h => b7 ((zi_leE (a := v) (b := got) rfl rfl (by omega) (by omega)).mpr h)
      refine zv_c1 ht rfl rfl (zv_c1 ht rfl rfl (zv_c1 ht rfl rfl ?_))
      refine zv_e1 (x := Int32.ofNat at0) ht rfl rfl hP.1.1 ?_
      refine zv_cl ht rfl rfl rfl rfl (by omega) (Nat.le_of_ble_eq_true rfl) (m_fails (S := S) (tp := tp) (sz := sz) (B := B) (f := 1) (p := at0) hF hP (by omega) (by omega) (fun S8 hF8 k8 x8 w8 => ?_))
      show zEv d 156 163 [.ref 1592, .int 17, .int (Int32.ofNat p), .retAddr 0, .int (Int32.ofNat v), .retAddr 0, .int (Int32.ofNat got), .int (Int32.ofNat mk), .retAddr 0, .retAddr 0] [] S8 post
      refine zv_c1 ht rfl rfl (zv_c1 ht rfl rfl ?_)
      refine zv_cl ht rfl rfl rfl rfl (by omega) (Nat.le_of_ble_eq_true rfl) (m_wantX (S := S8) (w := 41) hF8 (by omega) x8 (by omega) ?_)
      show zEv d 156 169 [.ref 1592, .int 17, .int (Int32.ofNat p), .retAddr 0, .int (Int32.ofNat v), .retAddr 0, .int (Int32.ofNat got), .int (Int32.ofNat mk), .retAddr 0, .retAddr 0] [] S8 post
      refine zv_c1 ht rfl rfl ?_
      have C23 : ∀ (pst22 : Outcome × zS → Prop), (pst22 (.returned (some (.int 0)), S8)) → zCall (d - 1) 125 [.ref 1592] S8 pst22 := by
        intro pst22 k25
        have ht24 : ztab 125 = ztb125 := rfl
        show zEv (d - 1) 125 0 [.ref 1592] [] S8 pst22
        refine zv_c1 ht24 rfl rfl ?_
        refine zv_e1 (x := 1) ht24 rfl rfl x8.1 ?_
        refine zv_br ht24 rfl rfl rfl (fun _ => ?_) (fun h => absurd (by decide) h)
        refine zv_c1 ht24 rfl rfl ?_
        exact zv_rc ht24 rfl rfl rfl rfl (by decide) k25
      refine zv_cl ht rfl rfl rfl rfl (by omega) (Nat.le_of_ble_eq_true rfl) (C23 _ ?_)
      show zEv d 156 173 [.ref 1592, .int 17, .int (Int32.ofNat p), .retAddr 0, .int (Int32.ofNat v), .retAddr 0, .int (Int32.ofNat got), .int (Int32.ofNat mk), .retAddr 0, .retAddr 0] [.int 0] S8 post
      refine zv_br ht rfl rfl rfl (fun h => absurd h (by decide)) (fun _ => ?_)
      refine zv_c1 ht rfl rfl ?_
      exact zv_rt ht rfl rfl rfl rfl (h3 c5 e5 b5 b6 b7 S8 hF8 k8 x8 w8)

theorem se18 {d : Nat} {S : zS} (hF : zFin true S) (hd : 3 ≤ d) {tp : Nat → Nat} {sz at0 rd nx mk B : Nat} {rec : Nat → Nat → Nat → pE (zNd × Nat × Nat)} (p deep v got : Nat)  (hP : mP tp sz S at0 rd nx (mk + got)) (hp : p ≤ 300) (hdp : deep < 2000) (hrd : rd ≤ 80) (hs0 : sz ≤ 300) (ha0 : at0 ≤ sz) (hB : nx + 2 * (sz - at0) + 3 ≤ B) (hB3 : B ≤ 3000) (hv : v < 2147483648) (hmk : mk + got + (sz - at0) ≤ 2000) (hg : got ≤ 16) {post : Outcome × zS → Prop} (h1 : ∀ c5 : Nat, (pSee tp sz at0 = c5) → (c5 < 256) → ((¬ (c5 = 41)) ∨ (v ≤ got)) → ∀ S11 : zS, (zFin true S11) → (pWant tp sz 41 at0 = .ok (at0 + 1)) → (mFr B nx (mk + got) S S11) → (mP tp sz S11 (at0 + 1) rd nx (mk + got)) → ∀ S17 : zS, (zFin true S17) → (mFr B nx (mk + got) S11 S17) → (mP tp sz S17 (at0 + 1) rd (nx + 1) (mk + got)) → (mOp S17 nx 18 v p []) → zEv d 156 192 [.ref 1592, .retAddr 0, .retAddr 0, .retAddr 0, .retAddr 0, .retAddr 0, .retAddr 0, .int (Int32.ofNat mk), .int (Int32.ofNat nx), .int (Int32.ofNat mk)] [] S17 post) (h2 : ∀ c5 : Nat, (pSee tp sz at0 = c5) → (c5 < 256) → ((¬ (c5 = 41)) ∨ (v ≤ got)) → ∀ S12 : zS, (zFin true S12) → (pWant tp sz 41 at0 = .error (1, at0)) → (mFr B nx (mk + got) S S12) → (mX S12 1 at0) → post (.returned (some (.int (-1))), S12)) (h3 : ∀ c5 : Nat, (pSee tp sz at0 = c5) → (c5 < 256) → (c5 = 41) → (¬ (v ≤ got)) → ∀ S8 : zS, (zFin true S8) → (mFr B nx (mk + got) S S8) → (mX S8 1 at0) → (mV tp sz S8 at0) → post (.returned (some (.int (-1))), S8)) : zEv d 156 131 [.ref 1592, .int 18, .int (Int32.ofNat p), .retAddr 0, .int (Int32.ofNat v), .retAddr 0, .int (Int32.ofNat got), .int (Int32.ofNat mk), .retAddr 0, .retAddr 0] [] S post := by
  have ht : ztab 156 = ztb156 := rfl
  refine zv_c1 ht rfl rfl ?_
  have C2 : ∀ (pst1 : Outcome × zS → Prop), (pst1 (.returned (some (.int 1)), S)) → zCall (d - 1) 125 [.ref 1592] S pst1 := by
    intro pst1 k4
    have ht3 : ztab 125 = ztb125 := rfl
    show zEv (d - 1) 125 0 [.ref 1592] [] S pst1
    refine zv_c1 ht3 rfl rfl ?_
    refine zv_e1 (x := 0) ht3 rfl rfl hP.1.2.2.1 ?_
    refine zv_br ht3 rfl rfl rfl (fun h => absurd h (by decide)) (fun _ => ?_)
    refine zv_c1 ht3 rfl rfl (zv_c1 ht3 rfl rfl ?_)
    exact zv_rc ht3 rfl rfl rfl rfl (by decide) k4
  refine zv_cl ht rfl rfl rfl rfl (by omega) (Nat.le_of_ble_eq_true rfl) (C2 _ ?_)
  show zEv d 156 135 [.ref 1592, .int 18, .int (Int32.ofNat p), .retAddr 0, .int (Int32.ofNat v), .retAddr 0, .int (Int32.ofNat got), .int (Int32.ofNat mk), .retAddr 0, .retAddr 0] [.int 1] S post
  refine zv_br ht rfl rfl rfl (fun h => absurd h (by decide)) (fun _ => ?_)
  refine zv_c1 ht rfl rfl ?_
  refine zv_cl ht rfl rfl rfl rfl (by omega) (Nat.le_of_ble_eq_true rfl) (m_seeP (S := S) (tp := tp) (sz := sz) hF (by omega) hP (fun c5 e5 b5 => ?_))
  show zEv d 156 142 [.ref 1592, .int 18, .int (Int32.ofNat p), .retAddr 0, .int (Int32.ofNat v), .retAddr 0, .int (Int32.ofNat got), .int (Int32.ofNat mk), .retAddr 0, .retAddr 0] [.int (Int32.ofNat c5)] S post
  refine zv_c1 ht rfl rfl ?_
  have J9 : ((¬ (c5 = 41)) ∨ (v ≤ got)) → zEv d 156 163 [.ref 1592, .int 18, .int (Int32.ofNat p), .retAddr 0, .int (Int32.ofNat v), .retAddr 0, .retAddr 0, .int (Int32.ofNat mk), .retAddr 0, .retAddr 0] [] S post := by
    intro b10
    refine zv_c1 ht rfl rfl (zv_c1 ht rfl rfl ?_)
    refine zv_cl ht rfl rfl rfl rfl (by omega) (Nat.le_of_ble_eq_true rfl) (m_want (S := S) (tp := tp) (sz := sz) (B := B) (w := 41) hF (by omega) hP (by omega) (by omega) (fun S11 hF11 e11 k11 p11 => ?_) (fun S12 hF12 e12 k12 x12 => ?_))
    · show zEv d 156 169 [.ref 1592, .int 18, .int (Int32.ofNat p), .retAddr 0, .int (Int32.ofNat v), .retAddr 0, .retAddr 0, .int (Int32.ofNat mk), .retAddr 0, .retAddr 0] [] S11 post
      refine zv_c1 ht rfl rfl ?_
      have C14 : ∀ (pst13 : Outcome × zS → Prop), (pst13 (.returned (some (.int 1)), S11)) → zCall (d - 1) 125 [.ref 1592] S11 pst13 := by
        intro pst13 k16
        have ht15 : ztab 125 = ztb125 := rfl
        show zEv (d - 1) 125 0 [.ref 1592] [] S11 pst13
        refine zv_c1 ht15 rfl rfl ?_
        refine zv_e1 (x := 0) ht15 rfl rfl p11.1.2.2.1 ?_
        refine zv_br ht15 rfl rfl rfl (fun h => absurd h (by decide)) (fun _ => ?_)
        refine zv_c1 ht15 rfl rfl (zv_c1 ht15 rfl rfl ?_)
        exact zv_rc ht15 rfl rfl rfl rfl (by decide) k16
      refine zv_cl ht rfl rfl rfl rfl (by omega) (Nat.le_of_ble_eq_true rfl) (C14 _ ?_)
      show zEv d 156 173 [.ref 1592, .int 18, .int (Int32.ofNat p), .retAddr 0, .int (Int32.ofNat v), .retAddr 0, .retAddr 0, .int (Int32.ofNat mk), .retAddr 0, .retAddr 0] [.int 1] S11 post
      refine zv_br ht rfl rfl rfl (fun _ => ?_) (fun h => absurd (by decide) h)
      refine zv_c1 ht rfl rfl (zv_c1 ht rfl rfl (zv_c1 ht rfl rfl (zv_c1 ht rfl rfl ?_)))
      refine zv_cl ht rfl rfl rfl rfl (by omega) (Nat.le_of_ble_eq_true rfl) (m_node (S := S11) (tp := tp) (sz := sz) (B := B) (k := 18) (v := v) (p := p) hF11 p11 (by omega) (by omega) (by omega) (by omega) (by omega) (fun S17 hF17 k17 p17 o17 => ?_))
      show zEv d 156 186 [.ref 1592, .int 18, .int (Int32.ofNat p), .retAddr 0, .int (Int32.ofNat v), .retAddr 0, .retAddr 0, .int (Int32.ofNat mk), .retAddr 0, .retAddr 0] [.int (Int32.ofNat nx)] S17 post
      refine zv_c2 (L' := [.ref 1592, .int 18, .int (Int32.ofNat p), .retAddr 0, .int (Int32.ofNat v), .retAddr 0, .retAddr 0, .int (Int32.ofNat mk), .int (Int32.ofNat nx), .retAddr 0]) ht rfl rfl ?_
      refine zv_c1 ht rfl rfl ?_
      refine zv_c2 (L' := [.ref 1592, .int 18, .int (Int32.ofNat p), .retAddr 0, .int (Int32.ofNat v), .retAddr 0, .retAddr 0, .int (Int32.ofNat mk), .int (Int32.ofNat nx), .int (Int32.ofNat mk)]) ht rfl rfl ?_
      exact zEv.wk (L := [.ref 1592, .retAddr 0, .retAddr 0, .retAddr 0, .retAddr 0, .retAddr 0, .retAddr 0, .int (Int32.ofNat mk), .int (Int32.ofNat nx), .int (Int32.ofNat mk)]) (L' := [.ref 1592, .int 18, .int (Int32.ofNat p), .retAddr 0, .int (Int32.ofNat v), .retAddr 0, .retAddr 0, .int (Int32.ofNat mk), .int (Int32.ofNat nx), .int (Int32.ofNat mk)]) (And.intro (Or.inl rfl) (And.intro (Or.inr rfl) (And.intro (Or.inr rfl) (And.intro (Or.inl rfl) (And.intro (Or.inr rfl) (And.intro (Or.inl rfl) (And.intro (Or.inl rfl) (And.intro (Or.inl rfl) (And.intro (Or.inl rfl) (And.intro (Or.inl rfl) trivial)))))))))) (h1 c5 e5 b5 b10 S11 hF11 e11 k11 p11 S17 hF17 k17 p17 o17)
    · show zEv d 156 169 [.ref 1592, .int 18, .int (Int32.ofNat p), .retAddr 0, .int (Int32.ofNat v), .retAddr 0, .retAddr 0, .int (Int32.ofNat mk), .retAddr 0, .retAddr 0] [] S12 post
      refine zv_c1 ht rfl rfl ?_
      have C19 : ∀ (pst18 : Outcome × zS → Prop), (pst18 (.returned (some (.int 0)), S12)) → zCall (d - 1) 125 [.ref 1592] S12 pst18 := by
        intro pst18 k21
        have ht20 : ztab 125 = ztb125 := rfl
        show zEv (d - 1) 125 0 [.ref 1592] [] S12 pst18
        refine zv_c1 ht20 rfl rfl ?_
        refine zv_e1 (x := 1) ht20 rfl rfl x12.1 ?_
        refine zv_br ht20 rfl rfl rfl (fun _ => ?_) (fun h => absurd (by decide) h)
        refine zv_c1 ht20 rfl rfl ?_
        exact zv_rc ht20 rfl rfl rfl rfl (by decide) k21
      refine zv_cl ht rfl rfl rfl rfl (by omega) (Nat.le_of_ble_eq_true rfl) (C19 _ ?_)
      show zEv d 156 173 [.ref 1592, .int 18, .int (Int32.ofNat p), .retAddr 0, .int (Int32.ofNat v), .retAddr 0, .retAddr 0, .int (Int32.ofNat mk), .retAddr 0, .retAddr 0] [.int 0] S12 post
      refine zv_br ht rfl rfl rfl (fun h => absurd h (by decide)) (fun _ => ?_)
      refine zv_c1 ht rfl rfl ?_
      exact zv_rt ht rfl rfl rfl rfl (h2 c5 e5 b5 b10 S12 hF12 e12 k12 x12)
  refine zv_br ht rfl rfl rfl (fun b6 => ?_) (fun b6 => ?_)
  · replace b6 : ¬ (c5 = 41) := fun h => b6 ((zi_eqE (a := c5) (b := 41) rfl rfl (by omega) (by omega)).mpr h)
    exact zEv.wk (L := [.ref 1592, .int 18, .int (Int32.ofNat p), .retAddr 0, .int (Int32.ofNat v), .retAddr 0, .retAddr 0, .int (Int32.ofNat mk), .retAddr 0, .retAddr 0]) (L' := [.ref 1592, .int 18, .int (Int32.ofNat p), .retAddr 0, .int (Int32.ofNat v), .retAddr 0, .int (Int32.ofNat got), .int (Int32.ofNat mk), .retAddr 0, .retAddr 0]) (And.intro (Or.inl rfl) (And.intro (Or.inl rfl) (And.intro (Or.inl rfl) (And.intro (Or.inl rfl) (And.intro (Or.inl rfl) (And.intro (Or.inl rfl) (And.intro (Or.inr rfl) (And.intro (Or.inl rfl) (And.intro (Or.inl rfl) (And.intro (Or.inl rfl) trivial)))))))))) (J9 (Or.inl b6))
  · replace b6 : c5 = 41 := (zi_eqE (a := c5) (b := 41) rfl rfl (by omega) (by omega)).mp (Classical.not_not.mp b6)
    refine zv_c1 ht rfl rfl (zv_c1 ht rfl rfl ?_)
    refine zv_br ht rfl rfl rfl (fun b7 => ?_) (fun b7 => ?_)
    · replace b7 : v ≤ got := (zi_leE (a := v) (b := got) rfl rfl (by omega) (by omega)).mp b7
      exact zEv.wk (L := [.ref 1592, .int 18, .int (Int32.ofNat p), .retAddr 0, .int (Int32.ofNat v), .retAddr 0, .retAddr 0, .int (Int32.ofNat mk), .retAddr 0, .retAddr 0]) (L' := [.ref 1592, .int 18, .int (Int32.ofNat p), .retAddr 0, .int (Int32.ofNat v), .retAddr 0, .int (Int32.ofNat got), .int (Int32.ofNat mk), .retAddr 0, .retAddr 0]) (And.intro (Or.inl rfl) (And.intro (Or.inl rfl) (And.intro (Or.inl rfl) (And.intro (Or.inl rfl) (And.intro (Or.inl rfl) (And.intro (Or.inl rfl) (And.intro (Or.inr rfl) (And.intro (Or.inl rfl) (And.intro (Or.inl rfl) (And.intro (Or.inl rfl) trivial)))))))))) (J9 (Or.inr b7))
    · replace b7 : ¬ (v ≤ got) := fun h => b7 ((zi_leE (a := v) (b := got) rfl rfl (by omega) (by omega)).mpr h)
      refine zv_c1 ht rfl rfl (zv_c1 ht rfl rfl (zv_c1 ht rfl rfl ?_))
      refine zv_e1 (x := Int32.ofNat at0) ht rfl rfl hP.1.1 ?_
      refine zv_cl ht rfl rfl rfl rfl (by omega) (Nat.le_of_ble_eq_true rfl) (m_fails (S := S) (tp := tp) (sz := sz) (B := B) (f := 1) (p := at0) hF hP (by omega) (by omega) (fun S8 hF8 k8 x8 w8 => ?_))
      show zEv d 156 163 [.ref 1592, .int 18, .int (Int32.ofNat p), .retAddr 0, .int (Int32.ofNat v), .retAddr 0, .int (Int32.ofNat got), .int (Int32.ofNat mk), .retAddr 0, .retAddr 0] [] S8 post
      refine zv_c1 ht rfl rfl (zv_c1 ht rfl rfl ?_)
      refine zv_cl ht rfl rfl rfl rfl (by omega) (Nat.le_of_ble_eq_true rfl) (m_wantX (S := S8) (w := 41) hF8 (by omega) x8 (by omega) ?_)
      show zEv d 156 169 [.ref 1592, .int 18, .int (Int32.ofNat p), .retAddr 0, .int (Int32.ofNat v), .retAddr 0, .int (Int32.ofNat got), .int (Int32.ofNat mk), .retAddr 0, .retAddr 0] [] S8 post
      refine zv_c1 ht rfl rfl ?_
      have C23 : ∀ (pst22 : Outcome × zS → Prop), (pst22 (.returned (some (.int 0)), S8)) → zCall (d - 1) 125 [.ref 1592] S8 pst22 := by
        intro pst22 k25
        have ht24 : ztab 125 = ztb125 := rfl
        show zEv (d - 1) 125 0 [.ref 1592] [] S8 pst22
        refine zv_c1 ht24 rfl rfl ?_
        refine zv_e1 (x := 1) ht24 rfl rfl x8.1 ?_
        refine zv_br ht24 rfl rfl rfl (fun _ => ?_) (fun h => absurd (by decide) h)
        refine zv_c1 ht24 rfl rfl ?_
        exact zv_rc ht24 rfl rfl rfl rfl (by decide) k25
      refine zv_cl ht rfl rfl rfl rfl (by omega) (Nat.le_of_ble_eq_true rfl) (C23 _ ?_)
      show zEv d 156 173 [.ref 1592, .int 18, .int (Int32.ofNat p), .retAddr 0, .int (Int32.ofNat v), .retAddr 0, .int (Int32.ofNat got), .int (Int32.ofNat mk), .retAddr 0, .retAddr 0] [.int 0] S8 post
      refine zv_br ht rfl rfl rfl (fun h => absurd h (by decide)) (fun _ => ?_)
      refine zv_c1 ht rfl rfl ?_
      exact zv_rt ht rfl rfl rfl rfl (h3 c5 e5 b5 b6 b7 S8 hF8 k8 x8 w8)

theorem sv0_17 {d : Nat} {S : zS} (hF : zFin true S) (hd : 3 ≤ d) {tp : Nat → Nat} {sz at0 rd nx wt B : Nat} (p deep : Nat)  (hP : mP tp sz S at0 rd nx wt) (hp : p ≤ 300) (hdp : deep < 2000) (hs0 : sz ≤ 300) (hwt : wt ≤ 2000) {post : Outcome × zS → Prop} (h1 : ∀ S1 : zS, ∀ v1 : Nat, ∀ at1 : Nat, (zFin true S1) → (pNum tp sz at0 = .ok (v1, at1)) → (1 ≤ v1) → (v1 < 2147483648) → (at0 ≤ at1) → (at1 ≤ sz) → (mFr B nx wt S S1) → (mP tp sz S1 at1 rd nx wt) → zEv d 156 30 [.ref 1592, .int (Int32.ofNat 17), .int (Int32.ofNat p), .int (Int32.ofNat deep), .int (Int32.ofNat v1), .int (Int32.ofNat 12), .int (Int32.ofNat 0), .int (Int32.ofNat wt), .retAddr 0, .retAddr 0] [] S1 post) (h2 : ∀ S2 : zS, ∀ u2 : Int32, ∀ z2 : Nat, (zFin true S2) → (pNum tp sz at0 = .error (1, z2)) → (z2 ≤ sz) → (mFr B nx wt S S2) → (mX S2 1 z2) → zEv d 156 30 [.ref 1592, .int (Int32.ofNat 17), .int (Int32.ofNat p), .int (Int32.ofNat deep), .int u2, .int (Int32.ofNat 12), .int (Int32.ofNat 0), .int (gI S2 97 1592), .retAddr 0, .retAddr 0] [] S2 post) : zCall d 156 [.ref 1592, .int 17, .int (Int32.ofNat p), .int (Int32.ofNat deep)] S post := by
  have ht : ztab 156 = ztb156 := rfl
  show zEv d 156 0 [.ref 1592, .int 17, .int (Int32.ofNat p), .int (Int32.ofNat deep), .retAddr 0, .retAddr 0, .retAddr 0, .retAddr 0, .retAddr 0, .retAddr 0] [] S post
  refine zv_c1 ht rfl rfl ?_
  refine zv_cl ht rfl rfl rfl rfl (by omega) (Nat.le_of_ble_eq_true rfl) (m_number (S := S) (tp := tp) (sz := sz) (B := B) hF (by omega) hP (fun S1 v1 at1 hF1 e1 a1 b1 c1 g1 k1 p1 => ?_) (fun S2 u2 z2 hF2 e2 a2 k2 x2 => ?_))
  · show zEv d 156 4 [.ref 1592, .int 17, .int (Int32.ofNat p), .int (Int32.ofNat deep), .retAddr 0, .retAddr 0, .retAddr 0, .retAddr 0, .retAddr 0, .retAddr 0] [.int (Int32.ofNat v1)] S1 post
    refine zv_c2 (L' := [.ref 1592, .int 17, .int (Int32.ofNat p), .int (Int32.ofNat deep), .int (Int32.ofNat v1), .retAddr 0, .retAddr 0, .retAddr 0, .retAddr 0, .retAddr 0]) ht rfl rfl ?_
    refine zv_c1 ht rfl rfl (zv_c1 ht rfl rfl ?_)
    refine zv_br ht rfl rfl rfl (fun _ => ?_) (fun h => absurd (by decide) h)
    refine zv_c1 ht rfl rfl ?_
    refine zv_c2 (L' := [.ref 1592, .int 17, .int (Int32.ofNat p), .int (Int32.ofNat deep), .int (Int32.ofNat v1), .int 12, .retAddr 0, .retAddr 0, .retAddr 0, .retAddr 0]) ht rfl rfl ?_
    refine zv_c1 ht rfl rfl ?_
    refine zv_c2 (L' := [.ref 1592, .int 17, .int (Int32.ofNat p), .int (Int32.ofNat deep), .int (Int32.ofNat v1), .int 12, .int 0, .retAddr 0, .retAddr 0, .retAddr 0]) ht rfl rfl ?_
    refine zv_c1 ht rfl rfl ?_
    refine zv_e1 (x := Int32.ofNat wt) ht rfl rfl p1.1.2.2.2.2.2 ?_
    refine zv_c2 (L' := [.ref 1592, .int 17, .int (Int32.ofNat p), .int (Int32.ofNat deep), .int (Int32.ofNat v1), .int 12, .int 0, .int (Int32.ofNat wt), .retAddr 0, .retAddr 0]) ht rfl rfl ?_
    exact (h1 S1 v1 at1 hF1 e1 a1 b1 c1 g1 k1 p1)
  · show zEv d 156 4 [.ref 1592, .int 17, .int (Int32.ofNat p), .int (Int32.ofNat deep), .retAddr 0, .retAddr 0, .retAddr 0, .retAddr 0, .retAddr 0, .retAddr 0] [.int u2] S2 post
    refine zv_c2 (L' := [.ref 1592, .int 17, .int (Int32.ofNat p), .int (Int32.ofNat deep), .int u2, .retAddr 0, .retAddr 0, .retAddr 0, .retAddr 0, .retAddr 0]) ht rfl rfl ?_
    refine zv_c1 ht rfl rfl (zv_c1 ht rfl rfl ?_)
    refine zv_br ht rfl rfl rfl (fun _ => ?_) (fun h => absurd (by decide) h)
    refine zv_c1 ht rfl rfl ?_
    refine zv_c2 (L' := [.ref 1592, .int 17, .int (Int32.ofNat p), .int (Int32.ofNat deep), .int u2, .int 12, .retAddr 0, .retAddr 0, .retAddr 0, .retAddr 0]) ht rfl rfl ?_
    refine zv_c1 ht rfl rfl ?_
    refine zv_c2 (L' := [.ref 1592, .int 17, .int (Int32.ofNat p), .int (Int32.ofNat deep), .int u2, .int 12, .int 0, .retAddr 0, .retAddr 0, .retAddr 0]) ht rfl rfl ?_
    refine zv_c1 ht rfl rfl ?_
    refine zv_c1 (st' := [.int (gI S2 97 1592)]) (S' := S2) ht rfl rfl ?_
    refine zv_c2 (L' := [.ref 1592, .int 17, .int (Int32.ofNat p), .int (Int32.ofNat deep), .int u2, .int 12, .int 0, .int (gI S2 97 1592), .retAddr 0, .retAddr 0]) ht rfl rfl ?_
    exact (h2 S2 u2 z2 hF2 e2 a2 k2 x2)

theorem sv0_18 {d : Nat} {S : zS} (hF : zFin true S) (hd : 3 ≤ d) {tp : Nat → Nat} {sz at0 rd nx wt B : Nat} (p deep : Nat)  (hP : mP tp sz S at0 rd nx wt) (hp : p ≤ 300) (hdp : deep < 2000) (hs0 : sz ≤ 300) (hwt : wt ≤ 2000) {post : Outcome × zS → Prop} (h1 : ∀ S1 : zS, ∀ v1 : Nat, ∀ at1 : Nat, (zFin true S1) → (pNum tp sz at0 = .ok (v1, at1)) → (1 ≤ v1) → (v1 < 2147483648) → (at0 ≤ at1) → (at1 ≤ sz) → (mFr B nx wt S S1) → (mP tp sz S1 at1 rd nx wt) → zEv d 156 30 [.ref 1592, .int (Int32.ofNat 18), .int (Int32.ofNat p), .int (Int32.ofNat deep), .int (Int32.ofNat v1), .int (Int32.ofNat 16), .int (Int32.ofNat 0), .int (Int32.ofNat wt), .retAddr 0, .retAddr 0] [] S1 post) (h2 : ∀ S2 : zS, ∀ u2 : Int32, ∀ z2 : Nat, (zFin true S2) → (pNum tp sz at0 = .error (1, z2)) → (z2 ≤ sz) → (mFr B nx wt S S2) → (mX S2 1 z2) → zEv d 156 30 [.ref 1592, .int (Int32.ofNat 18), .int (Int32.ofNat p), .int (Int32.ofNat deep), .int u2, .int (Int32.ofNat 16), .int (Int32.ofNat 0), .int (gI S2 97 1592), .retAddr 0, .retAddr 0] [] S2 post) : zCall d 156 [.ref 1592, .int 18, .int (Int32.ofNat p), .int (Int32.ofNat deep)] S post := by
  have ht : ztab 156 = ztb156 := rfl
  show zEv d 156 0 [.ref 1592, .int 18, .int (Int32.ofNat p), .int (Int32.ofNat deep), .retAddr 0, .retAddr 0, .retAddr 0, .retAddr 0, .retAddr 0, .retAddr 0] [] S post
  refine zv_c1 ht rfl rfl ?_
  refine zv_cl ht rfl rfl rfl rfl (by omega) (Nat.le_of_ble_eq_true rfl) (m_number (S := S) (tp := tp) (sz := sz) (B := B) hF (by omega) hP (fun S1 v1 at1 hF1 e1 a1 b1 c1 g1 k1 p1 => ?_) (fun S2 u2 z2 hF2 e2 a2 k2 x2 => ?_))
  · show zEv d 156 4 [.ref 1592, .int 18, .int (Int32.ofNat p), .int (Int32.ofNat deep), .retAddr 0, .retAddr 0, .retAddr 0, .retAddr 0, .retAddr 0, .retAddr 0] [.int (Int32.ofNat v1)] S1 post
    refine zv_c2 (L' := [.ref 1592, .int 18, .int (Int32.ofNat p), .int (Int32.ofNat deep), .int (Int32.ofNat v1), .retAddr 0, .retAddr 0, .retAddr 0, .retAddr 0, .retAddr 0]) ht rfl rfl ?_
    refine zv_c1 ht rfl rfl (zv_c1 ht rfl rfl ?_)
    refine zv_br ht rfl rfl rfl (fun h => absurd h (by decide)) (fun _ => ?_)
    refine zv_c1 ht rfl rfl (zv_c1 ht rfl rfl ?_)
    refine zv_c2 (L' := [.ref 1592, .int 18, .int (Int32.ofNat p), .int (Int32.ofNat deep), .int (Int32.ofNat v1), .int 16, .retAddr 0, .retAddr 0, .retAddr 0, .retAddr 0]) ht rfl rfl ?_
    refine zv_c1 ht rfl rfl ?_
    refine zv_c2 (L' := [.ref 1592, .int 18, .int (Int32.ofNat p), .int (Int32.ofNat deep), .int (Int32.ofNat v1), .int 16, .int 0, .retAddr 0, .retAddr 0, .retAddr 0]) ht rfl rfl ?_
    refine zv_c1 ht rfl rfl ?_
    refine zv_e1 (x := Int32.ofNat wt) ht rfl rfl p1.1.2.2.2.2.2 ?_
    refine zv_c2 (L' := [.ref 1592, .int 18, .int (Int32.ofNat p), .int (Int32.ofNat deep), .int (Int32.ofNat v1), .int 16, .int 0, .int (Int32.ofNat wt), .retAddr 0, .retAddr 0]) ht rfl rfl ?_
    exact (h1 S1 v1 at1 hF1 e1 a1 b1 c1 g1 k1 p1)
  · show zEv d 156 4 [.ref 1592, .int 18, .int (Int32.ofNat p), .int (Int32.ofNat deep), .retAddr 0, .retAddr 0, .retAddr 0, .retAddr 0, .retAddr 0, .retAddr 0] [.int u2] S2 post
    refine zv_c2 (L' := [.ref 1592, .int 18, .int (Int32.ofNat p), .int (Int32.ofNat deep), .int u2, .retAddr 0, .retAddr 0, .retAddr 0, .retAddr 0, .retAddr 0]) ht rfl rfl ?_
    refine zv_c1 ht rfl rfl (zv_c1 ht rfl rfl ?_)
    refine zv_br ht rfl rfl rfl (fun h => absurd h (by decide)) (fun _ => ?_)
    refine zv_c1 ht rfl rfl (zv_c1 ht rfl rfl ?_)
    refine zv_c2 (L' := [.ref 1592, .int 18, .int (Int32.ofNat p), .int (Int32.ofNat deep), .int u2, .int 16, .retAddr 0, .retAddr 0, .retAddr 0, .retAddr 0]) ht rfl rfl ?_
    refine zv_c1 ht rfl rfl ?_
    refine zv_c2 (L' := [.ref 1592, .int 18, .int (Int32.ofNat p), .int (Int32.ofNat deep), .int u2, .int 16, .int 0, .retAddr 0, .retAddr 0, .retAddr 0]) ht rfl rfl ?_
    refine zv_c1 ht rfl rfl ?_
    refine zv_c1 (st' := [.int (gI S2 97 1592)]) (S' := S2) ht rfl rfl ?_
    refine zv_c2 (L' := [.ref 1592, .int 18, .int (Int32.ofNat p), .int (Int32.ofNat deep), .int u2, .int 16, .int 0, .int (gI S2 97 1592), .retAddr 0, .retAddr 0]) ht rfl rfl ?_
    exact (h2 S2 u2 z2 hF2 e2 a2 k2 x2)

theorem svX {d : Nat} {S : zS} (hF : zFin true S) (hd : 3 ≤ d) {k q : Nat} (y1 y2 y3 y4 y5 y6 y7 : Int32)  (h_fault : gI S 91 1592 = Int32.ofNat k) (hX : mX S k q) (hk : 0 < k) (hk4 : k < 4) {post : Outcome × zS → Prop} (h1 : post (.returned (some (.int (-1))), S)) : zEv d 156 30 [.ref 1592, .int y1, .int y2, .int y3, .int y4, .int y5, .int y6, .int y7, .retAddr 0, .retAddr 0] [] S post := by
  have ht : ztab 156 = ztb156 := rfl
  refine zv_c1 ht rfl rfl ?_
  have C2 : ∀ (pst1 : Outcome × zS → Prop), (pst1 (.returned (some (.int 0)), S)) → zCall (d - 1) 125 [.ref 1592] S pst1 := by
    intro pst1 k5
    have ht3 : ztab 125 = ztb125 := rfl
    show zEv (d - 1) 125 0 [.ref 1592] [] S pst1
    refine zv_c1 ht3 rfl rfl ?_
    refine zv_e1 (x := Int32.ofNat k) ht3 rfl rfl h_fault ?_
    refine zv_br ht3 rfl rfl rfl (fun b4 => ?_) (fun b4 => (show False from by have hq := b4; have hz : k = 0 := (zi_eqE (a := k) (b := 0) rfl rfl (by omega) (by omega)).mp (Classical.not_not.mp hq); omega).elim)
    refine zv_c1 ht3 rfl rfl ?_
    exact zv_rc ht3 rfl rfl rfl rfl (by decide) k5
  refine zv_cl ht rfl rfl rfl rfl (by omega) (Nat.le_of_ble_eq_true rfl) (C2 _ ?_)
  show zEv d 156 34 [.ref 1592, .int y1, .int y2, .int y3, .int y4, .int y5, .int y6, .int y7, .retAddr 0, .retAddr 0] [.int 0] S post
  refine zv_br ht rfl rfl rfl (fun _ => ?_) (fun h => absurd (by decide) h)
  refine zv_c1 ht rfl rfl ?_
  have C7 : ∀ (pst6 : Outcome × zS → Prop), (pst6 (.returned (some (.int 0)), S)) → zCall (d - 1) 125 [.ref 1592] S pst6 := by
    intro pst6 k10
    have ht8 : ztab 125 = ztb125 := rfl
    show zEv (d - 1) 125 0 [.ref 1592] [] S pst6
    refine zv_c1 ht8 rfl rfl ?_
    refine zv_e1 (x := Int32.ofNat k) ht8 rfl rfl h_fault ?_
    refine zv_br ht8 rfl rfl rfl (fun b9 => ?_) (fun b9 => (show False from by have hq := b9; have hz : k = 0 := (zi_eqE (a := k) (b := 0) rfl rfl (by omega) (by omega)).mp (Classical.not_not.mp hq); omega).elim)
    refine zv_c1 ht8 rfl rfl ?_
    exact zv_rc ht8 rfl rfl rfl rfl (by decide) k10
  refine zv_cl ht rfl rfl rfl rfl (by omega) (Nat.le_of_ble_eq_true rfl) (C7 _ ?_)
  show zEv d 156 135 [.ref 1592, .int y1, .int y2, .int y3, .int y4, .int y5, .int y6, .int y7, .retAddr 0, .retAddr 0] [.int 0] S post
  refine zv_br ht rfl rfl rfl (fun _ => ?_) (fun h => absurd (by decide) h)
  refine zv_c1 ht rfl rfl (zv_c1 ht rfl rfl ?_)
  refine zv_cl ht rfl rfl rfl rfl (by omega) (Nat.le_of_ble_eq_true rfl) (m_wantX (S := S) (w := 41) hF (by omega) hX (by omega) ?_)
  show zEv d 156 169 [.ref 1592, .int y1, .int y2, .int y3, .int y4, .int y5, .int y6, .int y7, .retAddr 0, .retAddr 0] [] S post
  refine zv_c1 ht rfl rfl ?_
  have C12 : ∀ (pst11 : Outcome × zS → Prop), (pst11 (.returned (some (.int 0)), S)) → zCall (d - 1) 125 [.ref 1592] S pst11 := by
    intro pst11 k15
    have ht13 : ztab 125 = ztb125 := rfl
    show zEv (d - 1) 125 0 [.ref 1592] [] S pst11
    refine zv_c1 ht13 rfl rfl ?_
    refine zv_e1 (x := Int32.ofNat k) ht13 rfl rfl h_fault ?_
    refine zv_br ht13 rfl rfl rfl (fun b14 => ?_) (fun b14 => (show False from by have hq := b14; have hz : k = 0 := (zi_eqE (a := k) (b := 0) rfl rfl (by omega) (by omega)).mp (Classical.not_not.mp hq); omega).elim)
    refine zv_c1 ht13 rfl rfl ?_
    exact zv_rc ht13 rfl rfl rfl rfl (by decide) k15
  refine zv_cl ht rfl rfl rfl rfl (by omega) (Nat.le_of_ble_eq_true rfl) (C12 _ ?_)
  show zEv d 156 173 [.ref 1592, .int y1, .int y2, .int y3, .int y4, .int y5, .int y6, .int y7, .retAddr 0, .retAddr 0] [.int 0] S post
  refine zv_br ht rfl rfl rfl (fun h => absurd h (by decide)) (fun _ => ?_)
  refine zv_c1 ht rfl rfl ?_
  exact zv_rt ht rfl rfl rfl rfl h1


