set_option maxRecDepth 100000
/-! ===== the twin reads what stands in brackets ===== -/
section Q9
variable {d : Nat} {post : Outcome × zS → Prop} {tp : Nat → Nat} {sz : Nat}
theorem m_leaf {S : zS} (hF : zFin true S) (hd : 6 ≤ d) {at0 rd nx wt B n k v p : Nat} (hP : mP tp sz S at0 rd nx wt) (hn : n < 3000) (hnB : n < B) (hO : mOp S n k v p []) (hk : k < 10) (hv : v < 2147483648) (hp : p ≤ 300)
    (h : ∀ S', zFin true S' → mFr B n wt S S' → mP tp sz S' at0 rd nx wt → mT true S' n (n + 1) (tN k v [] p []) n → post (.returned (some (.int (Int32.ofNat n))), S')) : zCall d 134 [.ref 1592, .int (Int32.ofNat n)] S post :=
  m_judged (rs := []) (cs := []) (B := B) (lo := n) (hi := n + 1) hF hd hP hn hnB (Nat.le_refl _) (Nat.lt_succ_self _) hO trivial (fun r hr => by cases hr) (by omega) (by omega) hv (by omega) hp ⟨fun _ => rfl, by omega, by omega, by omega, by omega⟩ (fun S2 f2 _ k2 _ _ p2 m2 => h S2 f2 k2 p2 m2) (fun S2 f2 e2 k2 x2 => by rw [pJ_leaf hk] at e2; cases e2)
end Q9
theorem ia_2 {d : Nat} {S : zS} (hF : zFin true S) (hd : 7 ≤ d) {tp : Nat → Nat} {sz at0 rd nx wt B : Nat} (p deep : Nat)  (hP : mP tp sz S at0 rd nx wt) (hp : p ≤ 300) (hdp : deep < 2000) (hB : nx + 3 ≤ B) (hB3 : B ≤ 3000) {post : Outcome × zS → Prop} (h1 : ∀ S5 : zS, ∀ v5 : Nat, (zFin true S5) → (pLet tp sz 65 80 at0 = .ok (v5, at0 + 1)) → (v5 ≤ 80 - 65) → (mFr B nx wt S S5) → (mP tp sz S5 (at0 + 1) rd nx wt) → ∀ S7 : zS, (zFin true S7) → (pWant tp sz 41 (at0 + 1) = .ok ((at0 + 1) + 1)) → (mFr B nx wt S5 S7) → (mP tp sz S7 ((at0 + 1) + 1) rd nx wt) → ∀ S13 : zS, (zFin true S13) → (mFr B nx wt S7 S13) → (mP tp sz S13 ((at0 + 1) + 1) rd (nx + 1) wt) → (mOp S13 nx 2 v5 p []) → ∀ S14 : zS, (zFin true S14) → (mFr B nx wt S13 S14) → (mP tp sz S14 ((at0 + 1) + 1) rd (nx + 1) wt) → (mT true S14 nx (nx + 1) (tN 2 v5 [] p []) nx) → post (.returned (some (.int (Int32.ofNat nx))), S14)) (h2 : ∀ S5 : zS, ∀ v5 : Nat, (zFin true S5) → (pLet tp sz 65 80 at0 = .ok (v5, at0 + 1)) → (v5 ≤ 80 - 65) → (mFr B nx wt S S5) → (mP tp sz S5 (at0 + 1) rd nx wt) → ∀ S8 : zS, (zFin true S8) → (pWant tp sz 41 (at0 + 1) = .error (1, (at0 + 1))) → (mFr B nx wt S5 S8) → (mX S8 1 (at0 + 1)) → post (.returned (some (.int (-1))), S8)) (h3 : ∀ S6 : zS, ∀ u6 : Int32, (zFin true S6) → (pLet tp sz 65 80 at0 = .error (1, at0)) → (mFr B nx wt S S6) → (mX S6 1 at0) → post (.returned (some (.int (-1))), S6)) : zCall d 151 [.ref 1592, .int 2, .int (Int32.ofNat p), .int (Int32.ofNat deep)] S post := by
  have ht : ztab 151 = ztb151 := rfl
  show zEv d 151 0 [.ref 1592, .int 2, .int (Int32.ofNat p), .int (Int32.ofNat deep), .retAddr 0, .retAddr 0, .retAddr 0, .retAddr 0, .retAddr 0] [] S post
  refine zv_c1 ht rfl rfl ?_
  have C2 : ∀ (pst1 : Outcome × zS → Prop), (pst1 (.returned (some (.int 1)), S)) → zCall (d - 1) 125 [.ref 1592] S pst1 := by
    intro pst1 k4
    have ht3 : ztab 125 = ztb125 := rfl
    show zEv (d - 1) 125 0 [.ref 1592] [] S pst1
    refine zv_c1 ht3 rfl rfl ?_
    refine zv_e1 (x := 0) ht3 rfl rfl hP.1.2.2.1 ?_
    refine zv_br ht3 rfl rfl rfl (fun h => absurd h (by decide)) (fun _ => ?_)
    refine zv_c1 ht3 rfl rfl (zv_c1 ht3 rfl rfl ?_)
    exact zv_rc ht3 rfl rfl rfl rfl (by decide) k4
  refine zv_cl ht rfl rfl rfl rfl (by omega) (Nat.le_of_ble_eq_true rfl) (C2 _ ?_)
  show zEv d 151 4 [.ref 1592, .int 2, .int (Int32.ofNat p), .int (Int32.ofNat deep), .retAddr 0, .retAddr 0, .retAddr 0, .retAddr 0, .retAddr 0] [.int 1] S post
  refine zv_br ht rfl rfl rfl (fun _ => ?_) (fun h => absurd (by decide) h)
  refine zv_c1 ht rfl rfl (zv_c1 ht rfl rfl ?_)
  refine zv_br ht rfl rfl rfl (fun _ => ?_) (fun h => absurd (by decide) h)
  refine zv_c1 ht rfl rfl (zv_c1 ht rfl rfl (zv_c1 ht rfl rfl ?_))
  refine zv_cl ht rfl rfl rfl rfl (by omega) (Nat.le_of_ble_eq_true rfl) (m_letter (S := S) (tp := tp) (sz := sz) (B := B) (lo := 65) (hi := 80) hF (by omega) hP (by omega) (by omega) (by omega) (fun S5 v5 hF5 e5 b5 k5 p5 => ?_) (fun S6 u6 hF6 e6 k6 x6 => ?_))
  · show zEv d 151 39 [.ref 1592, .int 2, .int (Int32.ofNat p), .int (Int32.ofNat deep), .retAddr 0, .retAddr 0, .retAddr 0, .retAddr 0, .retAddr 0] [.int (Int32.ofNat v5)] S5 post
    refine zv_c2 (L' := [.ref 1592, .int 2, .int (Int32.ofNat p), .int (Int32.ofNat deep), .int (Int32.ofNat v5), .retAddr 0, .retAddr 0, .retAddr 0, .retAddr 0]) ht rfl rfl ?_
    refine zv_c1 ht rfl rfl (zv_c1 ht rfl rfl ?_)
    refine zv_cl ht rfl rfl rfl rfl (by omega) (Nat.le_of_ble_eq_true rfl) (m_want (S := S5) (tp := tp) (sz := sz) (B := B) (w := 41) hF5 (by omega) p5 (by omega) (by omega) (fun S7 hF7 e7 k7 p7 => ?_) (fun S8 hF8 e8 k8 x8 => ?_))
    · show zEv d 151 47 [.ref 1592, .int 2, .int (Int32.ofNat p), .int (Int32.ofNat deep), .int (Int32.ofNat v5), .retAddr 0, .retAddr 0, .retAddr 0, .retAddr 0] [] S7 post
      refine zv_c1 ht rfl rfl ?_
      have C10 : ∀ (pst9 : Outcome × zS → Prop), (pst9 (.returned (some (.int 1)), S7)) → zCall (d - 1) 125 [.ref 1592] S7 pst9 := by
        intro pst9 k12
        have ht11 : ztab 125 = ztb125 := rfl
        show zEv (d - 1) 125 0 [.ref 1592] [] S7 pst9
        refine zv_c1 ht11 rfl rfl ?_
        refine zv_e1 (x := 0) ht11 rfl rfl p7.1.2.2.1 ?_
        refine zv_br ht11 rfl rfl rfl (fun h => absurd h (by decide)) (fun _ => ?_)
        refine zv_c1 ht11 rfl rfl (zv_c1 ht11 rfl rfl ?_)
        exact zv_rc ht11 rfl rfl rfl rfl (by decide) k12
      refine zv_cl ht rfl rfl rfl rfl (by omega) (Nat.le_of_ble_eq_true rfl) (C10 _ ?_)
      show zEv d 151 51 [.ref 1592, .int 2, .int (Int32.ofNat p), .int (Int32.ofNat deep), .int (Int32.ofNat v5), .retAddr 0, .retAddr 0, .retAddr 0, .retAddr 0] [.int 1] S7 post
      refine zv_br ht rfl rfl rfl (fun _ => ?_) (fun h => absurd (by decide) h)
      refine zv_c1 ht rfl rfl (zv_c1 ht rfl rfl (zv_c1 ht rfl rfl (zv_c1 ht rfl rfl ?_)))
      refine zv_br ht rfl rfl rfl (fun _ => ?_) (fun h => absurd (by decide) h)
      refine zv_c1 ht rfl rfl (zv_c1 ht rfl rfl (zv_c1 ht rfl rfl (zv_c1 ht rfl rfl ?_)))
      refine zv_cl ht rfl rfl rfl rfl (by omega) (Nat.le_of_ble_eq_true rfl) (m_node (S := S7) (tp := tp) (sz := sz) (B := B) (k := 2) (v := v5) (p := p) hF7 p7 (by omega) (by omega) (by omega) (by omega) (by omega) (fun S13 hF13 k13 p13 o13 => ?_))
      show zEv d 151 80 [.ref 1592, .int 2, .int (Int32.ofNat p), .int (Int32.ofNat deep), .int (Int32.ofNat v5), .retAddr 0, .retAddr 0, .retAddr 0, .retAddr 0] [.int (Int32.ofNat nx), .ref 1592] S13 post
      refine zv_cl ht rfl rfl rfl rfl (by omega) (Nat.le_of_ble_eq_true rfl) (m_leaf (S := S13) (tp := tp) (sz := sz) (B := B) (n := nx) (k := 2) (v := v5) (p := p) hF13 (by omega) p13 (by omega) (by omega) o13 (by omega) (by omega) (by omega) (fun S14 hF14 k14 p14 t14 => ?_))
      show zEv d 151 83 [.ref 1592, .int 2, .int (Int32.ofNat p), .int (Int32.ofNat deep), .int (Int32.ofNat v5), .retAddr 0, .retAddr 0, .retAddr 0, .retAddr 0] [.int (Int32.ofNat nx)] S14 post
      refine zv_c2 (L' := [.ref 1592, .int 2, .int (Int32.ofNat p), .int (Int32.ofNat deep), .int (Int32.ofNat v5), .int (Int32.ofNat nx), .retAddr 0, .retAddr 0, .retAddr 0]) ht rfl rfl ?_
      refine zv_c1 ht rfl rfl (zv_c1 ht rfl rfl ?_)
      refine zv_br ht rfl rfl rfl (fun h => absurd h (by decide)) (fun _ => ?_)
      refine zv_c1 ht rfl rfl (zv_c1 ht rfl rfl ?_)
      exact zv_rt ht rfl rfl rfl rfl (h1 S5 v5 hF5 e5 b5 k5 p5 S7 hF7 e7 k7 p7 S13 hF13 k13 p13 o13 S14 hF14 k14 p14 t14)
    · show zEv d 151 47 [.ref 1592, .int 2, .int (Int32.ofNat p), .int (Int32.ofNat deep), .int (Int32.ofNat v5), .retAddr 0, .retAddr 0, .retAddr 0, .retAddr 0] [] S8 post
      refine zv_c1 ht rfl rfl ?_
      have C16 : ∀ (pst15 : Outcome × zS → Prop), (pst15 (.returned (some (.int 0)), S8)) → zCall (d - 1) 125 [.ref 1592] S8 pst15 := by
        intro pst15 k18
        have ht17 : ztab 125 = ztb125 := rfl
        show zEv (d - 1) 125 0 [.ref 1592] [] S8 pst15
        refine zv_c1 ht17 rfl rfl ?_
        refine zv_e1 (x := 1) ht17 rfl rfl x8.1 ?_
        refine zv_br ht17 rfl rfl rfl (fun _ => ?_) (fun h => absurd (by decide) h)
        refine zv_c1 ht17 rfl rfl ?_
        exact zv_rc ht17 rfl rfl rfl rfl (by decide) k18
      refine zv_cl ht rfl rfl rfl rfl (by omega) (Nat.le_of_ble_eq_true rfl) (C16 _ ?_)
      show zEv d 151 51 [.ref 1592, .int 2, .int (Int32.ofNat p), .int (Int32.ofNat deep), .int (Int32.ofNat v5), .retAddr 0, .retAddr 0, .retAddr 0, .retAddr 0] [.int 0] S8 post
      refine zv_br ht rfl rfl rfl (fun h => absurd h (by decide)) (fun _ => ?_)
      refine zv_c1 ht rfl rfl ?_
      exact zv_rt ht rfl rfl rfl rfl (h2 S5 v5 hF5 e5 b5 k5 p5 S8 hF8 e8 k8 x8)
  · show zEv d 151 39 [.ref 1592, .int 2, .int (Int32.ofNat p), .int (Int32.ofNat deep), .retAddr 0, .retAddr 0, .retAddr 0, .retAddr 0, .retAddr 0] [.int u6] S6 post
    refine zv_c2 (L' := [.ref 1592, .int 2, .int (Int32.ofNat p), .int (Int32.ofNat deep), .int u6, .retAddr 0, .retAddr 0, .retAddr 0, .retAddr 0]) ht rfl rfl ?_
    refine zv_c1 ht rfl rfl (zv_c1 ht rfl rfl ?_)
    refine zv_cl ht rfl rfl rfl rfl (by omega) (Nat.le_of_ble_eq_true rfl) (m_wantX (S := S6) (w := 41) hF6 (by omega) x6 (by omega) ?_)
    show zEv d 151 47 [.ref 1592, .int 2, .int (Int32.ofNat p), .int (Int32.ofNat deep), .int u6, .retAddr 0, .retAddr 0, .retAddr 0, .retAddr 0] [] S6 post
    refine zv_c1 ht rfl rfl ?_
    have C20 : ∀ (pst19 : Outcome × zS → Prop), (pst19 (.returned (some (.int 0)), S6)) → zCall (d - 1) 125 [.ref 1592] S6 pst19 := by
      intro pst19 k22
      have ht21 : ztab 125 = ztb125 := rfl
      show zEv (d - 1) 125 0 [.ref 1592] [] S6 pst19
      refine zv_c1 ht21 rfl rfl ?_
      refine zv_e1 (x := 1) ht21 rfl rfl x6.1 ?_
      refine zv_br ht21 rfl rfl rfl (fun _ => ?_) (fun h => absurd (by decide) h)
      refine zv_c1 ht21 rfl rfl ?_
      exact zv_rc ht21 rfl rfl rfl rfl (by decide) k22
    refine zv_cl ht rfl rfl rfl rfl (by omega) (Nat.le_of_ble_eq_true rfl) (C20 _ ?_)
    show zEv d 151 51 [.ref 1592, .int 2, .int (Int32.ofNat p), .int (Int32.ofNat deep), .int u6, .retAddr 0, .retAddr 0, .retAddr 0, .retAddr 0] [.int 0] S6 post
    refine zv_br ht rfl rfl rfl (fun h => absurd h (by decide)) (fun _ => ?_)
    refine zv_c1 ht rfl rfl ?_
    exact zv_rt ht rfl rfl rfl rfl (h3 S6 u6 hF6 e6 k6 x6)

theorem ia_3 {d : Nat} {S : zS} (hF : zFin true S) (hd : 7 ≤ d) {tp : Nat → Nat} {sz at0 rd nx wt B : Nat} (p deep : Nat)  (hP : mP tp sz S at0 rd nx wt) (hp : p ≤ 300) (hdp : deep < 2000) (hB : nx + 3 ≤ B) (hB3 : B ≤ 3000) {post : Outcome × zS → Prop} (h1 : ∀ S5 : zS, ∀ v5 : Nat, (zFin true S5) → (pLet tp sz 65 80 at0 = .ok (v5, at0 + 1)) → (v5 ≤ 80 - 65) → (mFr B nx wt S S5) → (mP tp sz S5 (at0 + 1) rd nx wt) → ∀ S7 : zS, (zFin true S7) → (pWant tp sz 41 (at0 + 1) = .ok ((at0 + 1) + 1)) → (mFr B nx wt S5 S7) → (mP tp sz S7 ((at0 + 1) + 1) rd nx wt) → ∀ S13 : zS, (zFin true S13) → (mFr B nx wt S7 S13) → (mP tp sz S13 ((at0 + 1) + 1) rd (nx + 1) wt) → (mOp S13 nx 3 v5 p []) → ∀ S14 : zS, (zFin true S14) → (mFr B nx wt S13 S14) → (mP tp sz S14 ((at0 + 1) + 1) rd (nx + 1) wt) → (mT true S14 nx (nx + 1) (tN 3 v5 [] p []) nx) → post (.returned (some (.int (Int32.ofNat nx))), S14)) (h2 : ∀ S5 : zS, ∀ v5 : Nat, (zFin true S5) → (pLet tp sz 65 80 at0 = .ok (v5, at0 + 1)) → (v5 ≤ 80 - 65) → (mFr B nx wt S S5) → (mP tp sz S5 (at0 + 1) rd nx wt) → ∀ S8 : zS, (zFin true S8) → (pWant tp sz 41 (at0 + 1) = .error (1, (at0 + 1))) → (mFr B nx wt S5 S8) → (mX S8 1 (at0 + 1)) → post (.returned (some (.int (-1))), S8)) (h3 : ∀ S6 : zS, ∀ u6 : Int32, (zFin true S6) → (pLet tp sz 65 80 at0 = .error (1, at0)) → (mFr B nx wt S S6) → (mX S6 1 at0) → post (.returned (some (.int (-1))), S6)) : zCall d 151 [.ref 1592, .int 3, .int (Int32.ofNat p), .int (Int32.ofNat deep)] S post := by
  have ht : ztab 151 = ztb151 := rfl
  show zEv d 151 0 [.ref 1592, .int 3, .int (Int32.ofNat p), .int (Int32.ofNat deep), .retAddr 0, .retAddr 0, .retAddr 0, .retAddr 0, .retAddr 0] [] S post
  refine zv_c1 ht rfl rfl ?_
  have C2 : ∀ (pst1 : Outcome × zS → Prop), (pst1 (.returned (some (.int 1)), S)) → zCall (d - 1) 125 [.ref 1592] S pst1 := by
    intro pst1 k4
    have ht3 : ztab 125 = ztb125 := rfl
    show zEv (d - 1) 125 0 [.ref 1592] [] S pst1
    refine zv_c1 ht3 rfl rfl ?_
    refine zv_e1 (x := 0) ht3 rfl rfl hP.1.2.2.1 ?_
    refine zv_br ht3 rfl rfl rfl (fun h => absurd h (by decide)) (fun _ => ?_)
    refine zv_c1 ht3 rfl rfl (zv_c1 ht3 rfl rfl ?_)
    exact zv_rc ht3 rfl rfl rfl rfl (by decide) k4
  refine zv_cl ht rfl rfl rfl rfl (by omega) (Nat.le_of_ble_eq_true rfl) (C2 _ ?_)
  show zEv d 151 4 [.ref 1592, .int 3, .int (Int32.ofNat p), .int (Int32.ofNat deep), .retAddr 0, .retAddr 0, .retAddr 0, .retAddr 0, .retAddr 0] [.int 1] S post
  refine zv_br ht rfl rfl rfl (fun _ => ?_) (fun h => absurd (by decide) h)
  refine zv_c1 ht rfl rfl (zv_c1 ht rfl rfl ?_)
  refine zv_br ht rfl rfl rfl (fun h => absurd h (by decide)) (fun _ => ?_)
  refine zv_c1 ht rfl rfl (zv_c1 ht rfl rfl ?_)
  refine zv_br ht rfl rfl rfl (fun _ => ?_) (fun h => absurd (by decide) h)
  refine zv_c1 ht rfl rfl (zv_c1 ht rfl rfl (zv_c1 ht rfl rfl ?_))
  refine zv_cl ht rfl rfl rfl rfl (by omega) (Nat.le_of_ble_eq_true rfl) (m_letter (S := S) (tp := tp) (sz := sz) (B := B) (lo := 65) (hi := 80) hF (by omega) hP (by omega) (by omega) (by omega) (fun S5 v5 hF5 e5 b5 k5 p5 => ?_) (fun S6 u6 hF6 e6 k6 x6 => ?_))
  · show zEv d 151 39 [.ref 1592, .int 3, .int (Int32.ofNat p), .int (Int32.ofNat deep), .retAddr 0, .retAddr 0, .retAddr 0, .retAddr 0, .retAddr 0] [.int (Int32.ofNat v5)] S5 post
    refine zv_c2 (L' := [.ref 1592, .int 3, .int (Int32.ofNat p), .int (Int32.ofNat deep), .int (Int32.ofNat v5), .retAddr 0, .retAddr 0, .retAddr 0, .retAddr 0]) ht rfl rfl ?_
    refine zv_c1 ht rfl rfl (zv_c1 ht rfl rfl ?_)
    refine zv_cl ht rfl rfl rfl rfl (by omega) (Nat.le_of_ble_eq_true rfl) (m_want (S := S5) (tp := tp) (sz := sz) (B := B) (w := 41) hF5 (by omega) p5 (by omega) (by omega) (fun S7 hF7 e7 k7 p7 => ?_) (fun S8 hF8 e8 k8 x8 => ?_))
    · show zEv d 151 47 [.ref 1592, .int 3, .int (Int32.ofNat p), .int (Int32.ofNat deep), .int (Int32.ofNat v5), .retAddr 0, .retAddr 0, .retAddr 0, .retAddr 0] [] S7 post
      refine zv_c1 ht rfl rfl ?_
      have C10 : ∀ (pst9 : Outcome × zS → Prop), (pst9 (.returned (some (.int 1)), S7)) → zCall (d - 1) 125 [.ref 1592] S7 pst9 := by
        intro pst9 k12
        have ht11 : ztab 125 = ztb125 := rfl
        show zEv (d - 1) 125 0 [.ref 1592] [] S7 pst9
        refine zv_c1 ht11 rfl rfl ?_
        refine zv_e1 (x := 0) ht11 rfl rfl p7.1.2.2.1 ?_
        refine zv_br ht11 rfl rfl rfl (fun h => absurd h (by decide)) (fun _ => ?_)
        refine zv_c1 ht11 rfl rfl (zv_c1 ht11 rfl rfl ?_)
        exact zv_rc ht11 rfl rfl rfl rfl (by decide) k12
      refine zv_cl ht rfl rfl rfl rfl (by omega) (Nat.le_of_ble_eq_true rfl) (C10 _ ?_)
      show zEv d 151 51 [.ref 1592, .int 3, .int (Int32.ofNat p), .int (Int32.ofNat deep), .int (Int32.ofNat v5), .retAddr 0, .retAddr 0, .retAddr 0, .retAddr 0] [.int 1] S7 post
      refine zv_br ht rfl rfl rfl (fun _ => ?_) (fun h => absurd (by decide) h)
      refine zv_c1 ht rfl rfl (zv_c1 ht rfl rfl (zv_c1 ht rfl rfl (zv_c1 ht rfl rfl ?_)))
      refine zv_br ht rfl rfl rfl (fun h => absurd h (by decide)) (fun _ => ?_)
      refine zv_c1 ht rfl rfl (zv_c1 ht rfl rfl ?_)
      refine zv_br ht rfl rfl rfl (fun _ => ?_) (fun h => absurd (by decide) h)
      refine zv_c1 ht rfl rfl (zv_c1 ht rfl rfl (zv_c1 ht rfl rfl ?_))
      refine zv_cl ht rfl rfl rfl rfl (by omega) (Nat.le_of_ble_eq_true rfl) (m_node (S := S7) (tp := tp) (sz := sz) (B := B) (k := 3) (v := v5) (p := p) hF7 p7 (by omega) (by omega) (by omega) (by omega) (by omega) (fun S13 hF13 k13 p13 o13 => ?_))
      show zEv d 151 80 [.ref 1592, .int 3, .int (Int32.ofNat p), .int (Int32.ofNat deep), .int (Int32.ofNat v5), .retAddr 0, .retAddr 0, .retAddr 0, .retAddr 0] [.int (Int32.ofNat nx), .ref 1592] S13 post
      refine zv_cl ht rfl rfl rfl rfl (by omega) (Nat.le_of_ble_eq_true rfl) (m_leaf (S := S13) (tp := tp) (sz := sz) (B := B) (n := nx) (k := 3) (v := v5) (p := p) hF13 (by omega) p13 (by omega) (by omega) o13 (by omega) (by omega) (by omega) (fun S14 hF14 k14 p14 t14 => ?_))
      show zEv d 151 83 [.ref 1592, .int 3, .int (Int32.ofNat p), .int (Int32.ofNat deep), .int (Int32.ofNat v5), .retAddr 0, .retAddr 0, .retAddr 0, .retAddr 0] [.int (Int32.ofNat nx)] S14 post
      refine zv_c2 (L' := [.ref 1592, .int 3, .int (Int32.ofNat p), .int (Int32.ofNat deep), .int (Int32.ofNat v5), .int (Int32.ofNat nx), .retAddr 0, .retAddr 0, .retAddr 0]) ht rfl rfl ?_
      refine zv_c1 ht rfl rfl (zv_c1 ht rfl rfl ?_)
      refine zv_br ht rfl rfl rfl (fun h => absurd h (by decide)) (fun _ => ?_)
      refine zv_c1 ht rfl rfl (zv_c1 ht rfl rfl ?_)
      exact zv_rt ht rfl rfl rfl rfl (h1 S5 v5 hF5 e5 b5 k5 p5 S7 hF7 e7 k7 p7 S13 hF13 k13 p13 o13 S14 hF14 k14 p14 t14)
    · show zEv d 151 47 [.ref 1592, .int 3, .int (Int32.ofNat p), .int (Int32.ofNat deep), .int (Int32.ofNat v5), .retAddr 0, .retAddr 0, .retAddr 0, .retAddr 0] [] S8 post
      refine zv_c1 ht rfl rfl ?_
      have C16 : ∀ (pst15 : Outcome × zS → Prop), (pst15 (.returned (some (.int 0)), S8)) → zCall (d - 1) 125 [.ref 1592] S8 pst15 := by
        intro pst15 k18
        have ht17 : ztab 125 = ztb125 := rfl
        show zEv (d - 1) 125 0 [.ref 1592] [] S8 pst15
        refine zv_c1 ht17 rfl rfl ?_
        refine zv_e1 (x := 1) ht17 rfl rfl x8.1 ?_
        refine zv_br ht17 rfl rfl rfl (fun _ => ?_) (fun h => absurd (by decide) h)
        refine zv_c1 ht17 rfl rfl ?_
        exact zv_rc ht17 rfl rfl rfl rfl (by decide) k18
      refine zv_cl ht rfl rfl rfl rfl (by omega) (Nat.le_of_ble_eq_true rfl) (C16 _ ?_)
      show zEv d 151 51 [.ref 1592, .int 3, .int (Int32.ofNat p), .int (Int32.ofNat deep), .int (Int32.ofNat v5), .retAddr 0, .retAddr 0, .retAddr 0, .retAddr 0] [.int 0] S8 post
      refine zv_br ht rfl rfl rfl (fun h => absurd h (by decide)) (fun _ => ?_)
      refine zv_c1 ht rfl rfl ?_
      exact zv_rt ht rfl rfl rfl rfl (h2 S5 v5 hF5 e5 b5 k5 p5 S8 hF8 e8 k8 x8)
  · show zEv d 151 39 [.ref 1592, .int 3, .int (Int32.ofNat p), .int (Int32.ofNat deep), .retAddr 0, .retAddr 0, .retAddr 0, .retAddr 0, .retAddr 0] [.int u6] S6 post
    refine zv_c2 (L' := [.ref 1592, .int 3, .int (Int32.ofNat p), .int (Int32.ofNat deep), .int u6, .retAddr 0, .retAddr 0, .retAddr 0, .retAddr 0]) ht rfl rfl ?_
    refine zv_c1 ht rfl rfl (zv_c1 ht rfl rfl ?_)
    refine zv_cl ht rfl rfl rfl rfl (by omega) (Nat.le_of_ble_eq_true rfl) (m_wantX (S := S6) (w := 41) hF6 (by omega) x6 (by omega) ?_)
    show zEv d 151 47 [.ref 1592, .int 3, .int (Int32.ofNat p), .int (Int32.ofNat deep), .int u6, .retAddr 0, .retAddr 0, .retAddr 0, .retAddr 0] [] S6 post
    refine zv_c1 ht rfl rfl ?_
    have C20 : ∀ (pst19 : Outcome × zS → Prop), (pst19 (.returned (some (.int 0)), S6)) → zCall (d - 1) 125 [.ref 1592] S6 pst19 := by
      intro pst19 k22
      have ht21 : ztab 125 = ztb125 := rfl
      show zEv (d - 1) 125 0 [.ref 1592] [] S6 pst19
      refine zv_c1 ht21 rfl rfl ?_
      refine zv_e1 (x := 1) ht21 rfl rfl x6.1 ?_
      refine zv_br ht21 rfl rfl rfl (fun _ => ?_) (fun h => absurd (by decide) h)
      refine zv_c1 ht21 rfl rfl ?_
      exact zv_rc ht21 rfl rfl rfl rfl (by decide) k22
    refine zv_cl ht rfl rfl rfl rfl (by omega) (Nat.le_of_ble_eq_true rfl) (C20 _ ?_)
    show zEv d 151 51 [.ref 1592, .int 3, .int (Int32.ofNat p), .int (Int32.ofNat deep), .int u6, .retAddr 0, .retAddr 0, .retAddr 0, .retAddr 0] [.int 0] S6 post
    refine zv_br ht rfl rfl rfl (fun h => absurd h (by decide)) (fun _ => ?_)
    refine zv_c1 ht rfl rfl ?_
    exact zv_rt ht rfl rfl rfl rfl (h3 S6 u6 hF6 e6 k6 x6)

theorem ia_100 {d : Nat} {S : zS} (hF : zFin true S) (hd : 8 ≤ d) {tp : Nat → Nat} {sz at0 rd nx wt B : Nat} (p deep : Nat)  (hP : mP tp sz S at0 rd nx wt) (hp : p ≤ 300) (hdp : deep < 2000) (hB : nx + 3 ≤ B) (hB3 : B ≤ 3000) {post : Outcome × zS → Prop} (h1 : ∀ S5 : zS, ∀ v5 : Nat, (zFin true S5) → (pLet tp sz 65 80 at0 = .ok (v5, at0 + 1)) → (v5 ≤ 80 - 65) → (mFr B nx wt S S5) → (mP tp sz S5 (at0 + 1) rd nx wt) → ∀ S7 : zS, (zFin true S7) → (pWant tp sz 41 (at0 + 1) = .ok ((at0 + 1) + 1)) → (mFr B nx wt S5 S7) → (mP tp sz S7 ((at0 + 1) + 1) rd nx wt) → ∀ S13 : zS, (zFin true S13) → (mFr B nx wt S7 S13) → (mP tp sz S13 ((at0 + 1) + 1) rd (nx + 1) wt) → (mOp S13 nx 2 v5 p []) → ∀ S14 : zS, (zFin true S14) → (mFr B nx wt S13 S14) → (mP tp sz S14 ((at0 + 1) + 1) rd (nx + 1) wt) → (mT true S14 nx (nx + 1) (tN 2 v5 [] p []) nx) → ∀ S15 : zS, ∀ q15 : Int32, (mEnd tp sz B nx wt S14 ((pWrap 21 (tN 2 v5 [] p []) p).map (fun y => (y, (at0 + 1) + 1, rd))) (fun _ => nx + 1 + (if 21 < 100 then 1 else 2)) q15 S15) → post (.returned (some (.int q15)), S15)) (h2 : ∀ S5 : zS, ∀ v5 : Nat, (zFin true S5) → (pLet tp sz 65 80 at0 = .ok (v5, at0 + 1)) → (v5 ≤ 80 - 65) → (mFr B nx wt S S5) → (mP tp sz S5 (at0 + 1) rd nx wt) → ∀ S8 : zS, (zFin true S8) → (pWant tp sz 41 (at0 + 1) = .error (1, (at0 + 1))) → (mFr B nx wt S5 S8) → (mX S8 1 (at0 + 1)) → post (.returned (some (.int (-1))), S8)) (h3 : ∀ S6 : zS, ∀ u6 : Int32, (zFin true S6) → (pLet tp sz 65 80 at0 = .error (1, at0)) → (mFr B nx wt S S6) → (mX S6 1 at0) → post (.returned (some (.int (-1))), S6)) : zCall d 151 [.ref 1592, .int 100, .int (Int32.ofNat p), .int (Int32.ofNat deep)] S post := by
  have ht : ztab 151 = ztb151 := rfl
  show zEv d 151 0 [.ref 1592, .int 100, .int (Int32.ofNat p), .int (Int32.ofNat deep), .retAddr 0, .retAddr 0, .retAddr 0, .retAddr 0, .retAddr 0] [] S post
  refine zv_c1 ht rfl rfl ?_
  have C2 : ∀ (pst1 : Outcome × zS → Prop), (pst1 (.returned (some (.int 1)), S)) → zCall (d - 1) 125 [.ref 1592] S pst1 := by
    intro pst1 k4
    have ht3 : ztab 125 = ztb125 := rfl
    show zEv (d - 1) 125 0 [.ref 1592] [] S pst1
    refine zv_c1 ht3 rfl rfl ?_
    refine zv_e1 (x := 0) ht3 rfl rfl hP.1.2.2.1 ?_
    refine zv_br ht3 rfl rfl rfl (fun h => absurd h (by decide)) (fun _ => ?_)
    refine zv_c1 ht3 rfl rfl (zv_c1 ht3 rfl rfl ?_)
    exact zv_rc ht3 rfl rfl rfl rfl (by decide) k4
  refine zv_cl ht rfl rfl rfl rfl (by omega) (Nat.le_of_ble_eq_true rfl) (C2 _ ?_)
  show zEv d 151 4 [.ref 1592, .int 100, .int (Int32.ofNat p), .int (Int32.ofNat deep), .retAddr 0, .retAddr 0, .retAddr 0, .retAddr 0, .retAddr 0] [.int 1] S post
  refine zv_br ht rfl rfl rfl (fun _ => ?_) (fun h => absurd (by decide) h)
  refine zv_c1 ht rfl rfl (zv_c1 ht rfl rfl ?_)
  refine zv_br ht rfl rfl rfl (fun h => absurd h (by decide)) (fun _ => ?_)
  refine zv_c1 ht rfl rfl (zv_c1 ht rfl rfl ?_)
  refine zv_br ht rfl rfl rfl (fun h => absurd h (by decide)) (fun _ => ?_)
  refine zv_c1 ht rfl rfl (zv_c1 ht rfl rfl ?_)
  refine zv_br ht rfl rfl rfl (fun _ => ?_) (fun h => absurd (by decide) h)
  refine zv_c1 ht rfl rfl (zv_c1 ht rfl rfl (zv_c1 ht rfl rfl ?_))
  refine zv_cl ht rfl rfl rfl rfl (by omega) (Nat.le_of_ble_eq_true rfl) (m_letter (S := S) (tp := tp) (sz := sz) (B := B) (lo := 65) (hi := 80) hF (by omega) hP (by omega) (by omega) (by omega) (fun S5 v5 hF5 e5 b5 k5 p5 => ?_) (fun S6 u6 hF6 e6 k6 x6 => ?_))
  · show zEv d 151 39 [.ref 1592, .int 100, .int (Int32.ofNat p), .int (Int32.ofNat deep), .retAddr 0, .retAddr 0, .retAddr 0, .retAddr 0, .retAddr 0] [.int (Int32.ofNat v5)] S5 post
    refine zv_c2 (L' := [.ref 1592, .int 100, .int (Int32.ofNat p), .int (Int32.ofNat deep), .int (Int32.ofNat v5), .retAddr 0, .retAddr 0, .retAddr 0, .retAddr 0]) ht rfl rfl ?_
    refine zv_c1 ht rfl rfl (zv_c1 ht rfl rfl ?_)
    refine zv_cl ht rfl rfl rfl rfl (by omega) (Nat.le_of_ble_eq_true rfl) (m_want (S := S5) (tp := tp) (sz := sz) (B := B) (w := 41) hF5 (by omega) p5 (by omega) (by omega) (fun S7 hF7 e7 k7 p7 => ?_) (fun S8 hF8 e8 k8 x8 => ?_))
    · show zEv d 151 47 [.ref 1592, .int 100, .int (Int32.ofNat p), .int (Int32.ofNat deep), .int (Int32.ofNat v5), .retAddr 0, .retAddr 0, .retAddr 0, .retAddr 0] [] S7 post
      refine zv_c1 ht rfl rfl ?_
      have C10 : ∀ (pst9 : Outcome × zS → Prop), (pst9 (.returned (some (.int 1)), S7)) → zCall (d - 1) 125 [.ref 1592] S7 pst9 := by
        intro pst9 k12
        have ht11 : ztab 125 = ztb125 := rfl
        show zEv (d - 1) 125 0 [.ref 1592] [] S7 pst9
        refine zv_c1 ht11 rfl rfl ?_
        refine zv_e1 (x := 0) ht11 rfl rfl p7.1.2.2.1 ?_
        refine zv_br ht11 rfl rfl rfl (fun h => absurd h (by decide)) (fun _ => ?_)
        refine zv_c1 ht11 rfl rfl (zv_c1 ht11 rfl rfl ?_)
        exact zv_rc ht11 rfl rfl rfl rfl (by decide) k12
      refine zv_cl ht rfl rfl rfl rfl (by omega) (Nat.le_of_ble_eq_true rfl) (C10 _ ?_)
      show zEv d 151 51 [.ref 1592, .int 100, .int (Int32.ofNat p), .int (Int32.ofNat deep), .int (Int32.ofNat v5), .retAddr 0, .retAddr 0, .retAddr 0, .retAddr 0] [.int 1] S7 post
      refine zv_br ht rfl rfl rfl (fun _ => ?_) (fun h => absurd (by decide) h)
      refine zv_c1 ht rfl rfl (zv_c1 ht rfl rfl (zv_c1 ht rfl rfl (zv_c1 ht rfl rfl ?_)))
      refine zv_br ht rfl rfl rfl (fun h => absurd h (by decide)) (fun _ => ?_)
      refine zv_c1 ht rfl rfl (zv_c1 ht rfl rfl ?_)
      refine zv_br ht rfl rfl rfl (fun h => absurd h (by decide)) (fun _ => ?_)
      refine zv_c1 ht rfl rfl (zv_c1 ht rfl rfl (zv_c1 ht rfl rfl (zv_c1 ht rfl rfl ?_)))
      refine zv_cl ht rfl rfl rfl rfl (by omega) (Nat.le_of_ble_eq_true rfl) (m_node (S := S7) (tp := tp) (sz := sz) (B := B) (k := 2) (v := v5) (p := p) hF7 p7 (by omega) (by omega) (by omega) (by omega) (by omega) (fun S13 hF13 k13 p13 o13 => ?_))
      show zEv d 151 80 [.ref 1592, .int 100, .int (Int32.ofNat p), .int (Int32.ofNat deep), .int (Int32.ofNat v5), .retAddr 0, .retAddr 0, .retAddr 0, .retAddr 0] [.int (Int32.ofNat nx), .ref 1592] S13 post
      refine zv_cl ht rfl rfl rfl rfl (by omega) (Nat.le_of_ble_eq_true rfl) (m_leaf (S := S13) (tp := tp) (sz := sz) (B := B) (n := nx) (k := 2) (v := v5) (p := p) hF13 (by omega) p13 (by omega) (by omega) o13 (by omega) (by omega) (by omega) (fun S14 hF14 k14 p14 t14 => ?_))
      show zEv d 151 83 [.ref 1592, .int 100, .int (Int32.ofNat p), .int (Int32.ofNat deep), .int (Int32.ofNat v5), .retAddr 0, .retAddr 0, .retAddr 0, .retAddr 0] [.int (Int32.ofNat nx)] S14 post
      refine zv_c2 (L' := [.ref 1592, .int 100, .int (Int32.ofNat p), .int (Int32.ofNat deep), .int (Int32.ofNat v5), .int (Int32.ofNat nx), .retAddr 0, .retAddr 0, .retAddr 0]) ht rfl rfl ?_
      refine zv_c1 ht rfl rfl (zv_c1 ht rfl rfl ?_)
      refine zv_br ht rfl rfl rfl (fun _ => ?_) (fun h => absurd (by decide) h)
      refine zv_c1 ht rfl rfl (zv_c1 ht rfl rfl (zv_c1 ht rfl rfl (zv_c1 ht rfl rfl ?_)))
      refine zv_cl ht rfl rfl rfl rfl (by omega) (Nat.le_of_ble_eq_true rfl) (m_wrapped (S := S14) (tp := tp) (sz := sz) (B := B) (w := 21) (p := p) hF14 (by omega) p14 (by omega) (by omega) t14 (by omega) (by omega) (fun S15 q15 m15 => ?_))
      show zEv d 151 105 [.ref 1592, .int 100, .int (Int32.ofNat p), .int (Int32.ofNat deep), .int (Int32.ofNat v5), .int (Int32.ofNat nx), .retAddr 0, .retAddr 0, .retAddr 0] [.int q15] S15 post
      exact zv_rt ht rfl rfl rfl rfl (h1 S5 v5 hF5 e5 b5 k5 p5 S7 hF7 e7 k7 p7 S13 hF13 k13 p13 o13 S14 hF14 k14 p14 t14 S15 q15 m15)
    · show zEv d 151 47 [.ref 1592, .int 100, .int (Int32.ofNat p), .int (Int32.ofNat deep), .int (Int32.ofNat v5), .retAddr 0, .retAddr 0, .retAddr 0, .retAddr 0] [] S8 post
      refine zv_c1 ht rfl rfl ?_
      have C17 : ∀ (pst16 : Outcome × zS → Prop), (pst16 (.returned (some (.int 0)), S8)) → zCall (d - 1) 125 [.ref 1592] S8 pst16 := by
        intro pst16 k19
        have ht18 : ztab 125 = ztb125 := rfl
        show zEv (d - 1) 125 0 [.ref 1592] [] S8 pst16
        refine zv_c1 ht18 rfl rfl ?_
        refine zv_e1 (x := 1) ht18 rfl rfl x8.1 ?_
        refine zv_br ht18 rfl rfl rfl (fun _ => ?_) (fun h => absurd (by decide) h)
        refine zv_c1 ht18 rfl rfl ?_
        exact zv_rc ht18 rfl rfl rfl rfl (by decide) k19
      refine zv_cl ht rfl rfl rfl rfl (by omega) (Nat.le_of_ble_eq_true rfl) (C17 _ ?_)
      show zEv d 151 51 [.ref 1592, .int 100, .int (Int32.ofNat p), .int (Int32.ofNat deep), .int (Int32.ofNat v5), .retAddr 0, .retAddr 0, .retAddr 0, .retAddr 0] [.int 0] S8 post
      refine zv_br ht rfl rfl rfl (fun h => absurd h (by decide)) (fun _ => ?_)
      refine zv_c1 ht rfl rfl ?_
      exact zv_rt ht rfl rfl rfl rfl (h2 S5 v5 hF5 e5 b5 k5 p5 S8 hF8 e8 k8 x8)
  · show zEv d 151 39 [.ref 1592, .int 100, .int (Int32.ofNat p), .int (Int32.ofNat deep), .retAddr 0, .retAddr 0, .retAddr 0, .retAddr 0, .retAddr 0] [.int u6] S6 post
    refine zv_c2 (L' := [.ref 1592, .int 100, .int (Int32.ofNat p), .int (Int32.ofNat deep), .int u6, .retAddr 0, .retAddr 0, .retAddr 0, .retAddr 0]) ht rfl rfl ?_
    refine zv_c1 ht rfl rfl (zv_c1 ht rfl rfl ?_)
    refine zv_cl ht rfl rfl rfl rfl (by omega) (Nat.le_of_ble_eq_true rfl) (m_wantX (S := S6) (w := 41) hF6 (by omega) x6 (by omega) ?_)
    show zEv d 151 47 [.ref 1592, .int 100, .int (Int32.ofNat p), .int (Int32.ofNat deep), .int u6, .retAddr 0, .retAddr 0, .retAddr 0, .retAddr 0] [] S6 post
    refine zv_c1 ht rfl rfl ?_
    have C21 : ∀ (pst20 : Outcome × zS → Prop), (pst20 (.returned (some (.int 0)), S6)) → zCall (d - 1) 125 [.ref 1592] S6 pst20 := by
      intro pst20 k23
      have ht22 : ztab 125 = ztb125 := rfl
      show zEv (d - 1) 125 0 [.ref 1592] [] S6 pst20
      refine zv_c1 ht22 rfl rfl ?_
      refine zv_e1 (x := 1) ht22 rfl rfl x6.1 ?_
      refine zv_br ht22 rfl rfl rfl (fun _ => ?_) (fun h => absurd (by decide) h)
      refine zv_c1 ht22 rfl rfl ?_
      exact zv_rc ht22 rfl rfl rfl rfl (by decide) k23
    refine zv_cl ht rfl rfl rfl rfl (by omega) (Nat.le_of_ble_eq_true rfl) (C21 _ ?_)
    show zEv d 151 51 [.ref 1592, .int 100, .int (Int32.ofNat p), .int (Int32.ofNat deep), .int u6, .retAddr 0, .retAddr 0, .retAddr 0, .retAddr 0] [.int 0] S6 post
    refine zv_br ht rfl rfl rfl (fun h => absurd h (by decide)) (fun _ => ?_)
    refine zv_c1 ht rfl rfl ?_
    exact zv_rt ht rfl rfl rfl rfl (h3 S6 u6 hF6 e6 k6 x6)

theorem ia_101 {d : Nat} {S : zS} (hF : zFin true S) (hd : 8 ≤ d) {tp : Nat → Nat} {sz at0 rd nx wt B : Nat} (p deep : Nat)  (hP : mP tp sz S at0 rd nx wt) (hp : p ≤ 300) (hdp : deep < 2000) (hB : nx + 3 ≤ B) (hB3 : B ≤ 3000) {post : Outcome × zS → Prop} (h1 : ∀ S5 : zS, ∀ v5 : Nat, (zFin true S5) → (pLet tp sz 65 80 at0 = .ok (v5, at0 + 1)) → (v5 ≤ 80 - 65) → (mFr B nx wt S S5) → (mP tp sz S5 (at0 + 1) rd nx wt) → ∀ S7 : zS, (zFin true S7) → (pWant tp sz 41 (at0 + 1) = .ok ((at0 + 1) + 1)) → (mFr B nx wt S5 S7) → (mP tp sz S7 ((at0 + 1) + 1) rd nx wt) → ∀ S13 : zS, (zFin true S13) → (mFr B nx wt S7 S13) → (mP tp sz S13 ((at0 + 1) + 1) rd (nx + 1) wt) → (mOp S13 nx 3 v5 p []) → ∀ S14 : zS, (zFin true S14) → (mFr B nx wt S13 S14) → (mP tp sz S14 ((at0 + 1) + 1) rd (nx + 1) wt) → (mT true S14 nx (nx + 1) (tN 3 v5 [] p []) nx) → ∀ S15 : zS, ∀ q15 : Int32, (mEnd tp sz B nx wt S14 ((pWrap 21 (tN 3 v5 [] p []) p).map (fun y => (y, (at0 + 1) + 1, rd))) (fun _ => nx + 1 + (if 21 < 100 then 1 else 2)) q15 S15) → post (.returned (some (.int q15)), S15)) (h2 : ∀ S5 : zS, ∀ v5 : Nat, (zFin true S5) → (pLet tp sz 65 80 at0 = .ok (v5, at0 + 1)) → (v5 ≤ 80 - 65) → (mFr B nx wt S S5) → (mP tp sz S5 (at0 + 1) rd nx wt) → ∀ S8 : zS, (zFin true S8) → (pWant tp sz 41 (at0 + 1) = .error (1, (at0 + 1))) → (mFr B nx wt S5 S8) → (mX S8 1 (at0 + 1)) → post (.returned (some (.int (-1))), S8)) (h3 : ∀ S6 : zS, ∀ u6 : Int32, (zFin true S6) → (pLet tp sz 65 80 at0 = .error (1, at0)) → (mFr B nx wt S S6) → (mX S6 1 at0) → post (.returned (some (.int (-1))), S6)) : zCall d 151 [.ref 1592, .int 101, .int (Int32.ofNat p), .int (Int32.ofNat deep)] S post := by
  have ht : ztab 151 = ztb151 := rfl
  show zEv d 151 0 [.ref 1592, .int 101, .int (Int32.ofNat p), .int (Int32.ofNat deep), .retAddr 0, .retAddr 0, .retAddr 0, .retAddr 0, .retAddr 0] [] S post
  refine zv_c1 ht rfl rfl ?_
  have C2 : ∀ (pst1 : Outcome × zS → Prop), (pst1 (.returned (some (.int 1)), S)) → zCall (d - 1) 125 [.ref 1592] S pst1 := by
    intro pst1 k4
    have ht3 : ztab 125 = ztb125 := rfl
    show zEv (d - 1) 125 0 [.ref 1592] [] S pst1
    refine zv_c1 ht3 rfl rfl ?_
    refine zv_e1 (x := 0) ht3 rfl rfl hP.1.2.2.1 ?_
    refine zv_br ht3 rfl rfl rfl (fun h => absurd h (by decide)) (fun _ => ?_)
    refine zv_c1 ht3 rfl rfl (zv_c1 ht3 rfl rfl ?_)
    exact zv_rc ht3 rfl rfl rfl rfl (by decide) k4
  refine zv_cl ht rfl rfl rfl rfl (by omega) (Nat.le_of_ble_eq_true rfl) (C2 _ ?_)
  show zEv d 151 4 [.ref 1592, .int 101, .int (Int32.ofNat p), .int (Int32.ofNat deep), .retAddr 0, .retAddr 0, .retAddr 0, .retAddr 0, .retAddr 0] [.int 1] S post
  refine zv_br ht rfl rfl rfl (fun _ => ?_) (fun h => absurd (by decide) h)
  refine zv_c1 ht rfl rfl (zv_c1 ht rfl rfl ?_)
  refine zv_br ht rfl rfl rfl (fun h => absurd h (by decide)) (fun _ => ?_)
  refine zv_c1 ht rfl rfl (zv_c1 ht rfl rfl ?_)
  refine zv_br ht rfl rfl rfl (fun h => absurd h (by decide)) (fun _ => ?_)
  refine zv_c1 ht rfl rfl (zv_c1 ht rfl rfl ?_)
  refine zv_br ht rfl rfl rfl (fun h => absurd h (by decide)) (fun _ => ?_)
  refine zv_c1 ht rfl rfl (zv_c1 ht rfl rfl ?_)
  refine zv_br ht rfl rfl rfl (fun h => absurd h (by decide)) (fun _ => ?_)
  refine zv_c1 ht rfl rfl (zv_c1 ht rfl rfl (zv_c1 ht rfl rfl ?_))
  refine zv_cl ht rfl rfl rfl rfl (by omega) (Nat.le_of_ble_eq_true rfl) (m_letter (S := S) (tp := tp) (sz := sz) (B := B) (lo := 65) (hi := 80) hF (by omega) hP (by omega) (by omega) (by omega) (fun S5 v5 hF5 e5 b5 k5 p5 => ?_) (fun S6 u6 hF6 e6 k6 x6 => ?_))
  · show zEv d 151 39 [.ref 1592, .int 101, .int (Int32.ofNat p), .int (Int32.ofNat deep), .retAddr 0, .retAddr 0, .retAddr 0, .retAddr 0, .retAddr 0] [.int (Int32.ofNat v5)] S5 post
    refine zv_c2 (L' := [.ref 1592, .int 101, .int (Int32.ofNat p), .int (Int32.ofNat deep), .int (Int32.ofNat v5), .retAddr 0, .retAddr 0, .retAddr 0, .retAddr 0]) ht rfl rfl ?_
    refine zv_c1 ht rfl rfl (zv_c1 ht rfl rfl ?_)
    refine zv_cl ht rfl rfl rfl rfl (by omega) (Nat.le_of_ble_eq_true rfl) (m_want (S := S5) (tp := tp) (sz := sz) (B := B) (w := 41) hF5 (by omega) p5 (by omega) (by omega) (fun S7 hF7 e7 k7 p7 => ?_) (fun S8 hF8 e8 k8 x8 => ?_))
    · show zEv d 151 47 [.ref 1592, .int 101, .int (Int32.ofNat p), .int (Int32.ofNat deep), .int (Int32.ofNat v5), .retAddr 0, .retAddr 0, .retAddr 0, .retAddr 0] [] S7 post
      refine zv_c1 ht rfl rfl ?_
      have C10 : ∀ (pst9 : Outcome × zS → Prop), (pst9 (.returned (some (.int 1)), S7)) → zCall (d - 1) 125 [.ref 1592] S7 pst9 := by
        intro pst9 k12
        have ht11 : ztab 125 = ztb125 := rfl
        show zEv (d - 1) 125 0 [.ref 1592] [] S7 pst9
        refine zv_c1 ht11 rfl rfl ?_
        refine zv_e1 (x := 0) ht11 rfl rfl p7.1.2.2.1 ?_
        refine zv_br ht11 rfl rfl rfl (fun h => absurd h (by decide)) (fun _ => ?_)
        refine zv_c1 ht11 rfl rfl (zv_c1 ht11 rfl rfl ?_)
        exact zv_rc ht11 rfl rfl rfl rfl (by decide) k12
      refine zv_cl ht rfl rfl rfl rfl (by omega) (Nat.le_of_ble_eq_true rfl) (C10 _ ?_)
      show zEv d 151 51 [.ref 1592, .int 101, .int (Int32.ofNat p), .int (Int32.ofNat deep), .int (Int32.ofNat v5), .retAddr 0, .retAddr 0, .retAddr 0, .retAddr 0] [.int 1] S7 post
      refine zv_br ht rfl rfl rfl (fun _ => ?_) (fun h => absurd (by decide) h)
      refine zv_c1 ht rfl rfl (zv_c1 ht rfl rfl (zv_c1 ht rfl rfl (zv_c1 ht rfl rfl ?_)))
      refine zv_br ht rfl rfl rfl (fun h => absurd h (by decide)) (fun _ => ?_)
      refine zv_c1 ht rfl rfl (zv_c1 ht rfl rfl ?_)
      refine zv_br ht rfl rfl rfl (fun _ => ?_) (fun h => absurd (by decide) h)
      refine zv_c1 ht rfl rfl (zv_c1 ht rfl rfl (zv_c1 ht rfl rfl ?_))
      refine zv_cl ht rfl rfl rfl rfl (by omega) (Nat.le_of_ble_eq_true rfl) (m_node (S := S7) (tp := tp) (sz := sz) (B := B) (k := 3) (v := v5) (p := p) hF7 p7 (by omega) (by omega) (by omega) (by omega) (by omega) (fun S13 hF13 k13 p13 o13 => ?_))
      show zEv d 151 80 [.ref 1592, .int 101, .int (Int32.ofNat p), .int (Int32.ofNat deep), .int (Int32.ofNat v5), .retAddr 0, .retAddr 0, .retAddr 0, .retAddr 0] [.int (Int32.ofNat nx), .ref 1592] S13 post
      refine zv_cl ht rfl rfl rfl rfl (by omega) (Nat.le_of_ble_eq_true rfl) (m_leaf (S := S13) (tp := tp) (sz := sz) (B := B) (n := nx) (k := 3) (v := v5) (p := p) hF13 (by omega) p13 (by omega) (by omega) o13 (by omega) (by omega) (by omega) (fun S14 hF14 k14 p14 t14 => ?_))
      show zEv d 151 83 [.ref 1592, .int 101, .int (Int32.ofNat p), .int (Int32.ofNat deep), .int (Int32.ofNat v5), .retAddr 0, .retAddr 0, .retAddr 0, .retAddr 0] [.int (Int32.ofNat nx)] S14 post
      refine zv_c2 (L' := [.ref 1592, .int 101, .int (Int32.ofNat p), .int (Int32.ofNat deep), .int (Int32.ofNat v5), .int (Int32.ofNat nx), .retAddr 0, .retAddr 0, .retAddr 0]) ht rfl rfl ?_
      refine zv_c1 ht rfl rfl (zv_c1 ht rfl rfl ?_)
      refine zv_br ht rfl rfl rfl (fun _ => ?_) (fun h => absurd (by decide) h)
      refine zv_c1 ht rfl rfl (zv_c1 ht rfl rfl (zv_c1 ht rfl rfl (zv_c1 ht rfl rfl ?_)))
      refine zv_cl ht rfl rfl rfl rfl (by omega) (Nat.le_of_ble_eq_true rfl) (m_wrapped (S := S14) (tp := tp) (sz := sz) (B := B) (w := 21) (p := p) hF14 (by omega) p14 (by omega) (by omega) t14 (by omega) (by omega) (fun S15 q15 m15 => ?_))
      show zEv d 151 105 [.ref 1592, .int 101, .int (Int32.ofNat p), .int (Int32.ofNat deep), .int (Int32.ofNat v5), .int (Int32.ofNat nx), .retAddr 0, .retAddr 0, .retAddr 0] [.int q15] S15 post
      exact zv_rt ht rfl rfl rfl rfl (h1 S5 v5 hF5 e5 b5 k5 p5 S7 hF7 e7 k7 p7 S13 hF13 k13 p13 o13 S14 hF14 k14 p14 t14 S15 q15 m15)
    · show zEv d 151 47 [.ref 1592, .int 101, .int (Int32.ofNat p), .int (Int32.ofNat deep), .int (Int32.ofNat v5), .retAddr 0, .retAddr 0, .retAddr 0, .retAddr 0] [] S8 post
      refine zv_c1 ht rfl rfl ?_
      have C17 : ∀ (pst16 : Outcome × zS → Prop), (pst16 (.returned (some (.int 0)), S8)) → zCall (d - 1) 125 [.ref 1592] S8 pst16 := by
        intro pst16 k19
        have ht18 : ztab 125 = ztb125 := rfl
        show zEv (d - 1) 125 0 [.ref 1592] [] S8 pst16
        refine zv_c1 ht18 rfl rfl ?_
        refine zv_e1 (x := 1) ht18 rfl rfl x8.1 ?_
        refine zv_br ht18 rfl rfl rfl (fun _ => ?_) (fun h => absurd (by decide) h)
        refine zv_c1 ht18 rfl rfl ?_
        exact zv_rc ht18 rfl rfl rfl rfl (by decide) k19
      refine zv_cl ht rfl rfl rfl rfl (by omega) (Nat.le_of_ble_eq_true rfl) (C17 _ ?_)
      show zEv d 151 51 [.ref 1592, .int 101, .int (Int32.ofNat p), .int (Int32.ofNat deep), .int (Int32.ofNat v5), .retAddr 0, .retAddr 0, .retAddr 0, .retAddr 0] [.int 0] S8 post
      refine zv_br ht rfl rfl rfl (fun h => absurd h (by decide)) (fun _ => ?_)
      refine zv_c1 ht rfl rfl ?_
      exact zv_rt ht rfl rfl rfl rfl (h2 S5 v5 hF5 e5 b5 k5 p5 S8 hF8 e8 k8 x8)
  · show zEv d 151 39 [.ref 1592, .int 101, .int (Int32.ofNat p), .int (Int32.ofNat deep), .retAddr 0, .retAddr 0, .retAddr 0, .retAddr 0, .retAddr 0] [.int u6] S6 post
    refine zv_c2 (L' := [.ref 1592, .int 101, .int (Int32.ofNat p), .int (Int32.ofNat deep), .int u6, .retAddr 0, .retAddr 0, .retAddr 0, .retAddr 0]) ht rfl rfl ?_
    refine zv_c1 ht rfl rfl (zv_c1 ht rfl rfl ?_)
    refine zv_cl ht rfl rfl rfl rfl (by omega) (Nat.le_of_ble_eq_true rfl) (m_wantX (S := S6) (w := 41) hF6 (by omega) x6 (by omega) ?_)
    show zEv d 151 47 [.ref 1592, .int 101, .int (Int32.ofNat p), .int (Int32.ofNat deep), .int u6, .retAddr 0, .retAddr 0, .retAddr 0, .retAddr 0] [] S6 post
    refine zv_c1 ht rfl rfl ?_
    have C21 : ∀ (pst20 : Outcome × zS → Prop), (pst20 (.returned (some (.int 0)), S6)) → zCall (d - 1) 125 [.ref 1592] S6 pst20 := by
      intro pst20 k23
      have ht22 : ztab 125 = ztb125 := rfl
      show zEv (d - 1) 125 0 [.ref 1592] [] S6 pst20
      refine zv_c1 ht22 rfl rfl ?_
      refine zv_e1 (x := 1) ht22 rfl rfl x6.1 ?_
      refine zv_br ht22 rfl rfl rfl (fun _ => ?_) (fun h => absurd (by decide) h)
      refine zv_c1 ht22 rfl rfl ?_
      exact zv_rc ht22 rfl rfl rfl rfl (by decide) k23
    refine zv_cl ht rfl rfl rfl rfl (by omega) (Nat.le_of_ble_eq_true rfl) (C21 _ ?_)
    show zEv d 151 51 [.ref 1592, .int 101, .int (Int32.ofNat p), .int (Int32.ofNat deep), .int u6, .retAddr 0, .retAddr 0, .retAddr 0, .retAddr 0] [.int 0] S6 post
    refine zv_br ht rfl rfl rfl (fun h => absurd h (by decide)) (fun _ => ?_)
    refine zv_c1 ht rfl rfl ?_
    exact zv_rt ht rfl rfl rfl rfl (h3 S6 u6 hF6 e6 k6 x6)

theorem ia_4 {d : Nat} {S : zS} (hF : zFin true S) (hd : 7 ≤ d) {tp : Nat → Nat} {sz at0 rd nx wt B : Nat} (p deep : Nat)  (hP : mP tp sz S at0 rd nx wt) (hp : p ≤ 300) (hdp : deep < 2000) (hB : nx + 3 ≤ B) (hB3 : B ≤ 3000) {post : Outcome × zS → Prop} (h1 : ∀ S5 : zS, ∀ v5 : Nat, ∀ at5 : Nat, (zFin true S5) → (pNum tp sz at0 = .ok (v5, at5)) → (1 ≤ v5) → (v5 < 2147483648) → (at0 ≤ at5) → (at5 ≤ sz) → (mFr B nx wt S S5) → (mP tp sz S5 at5 rd nx wt) → ∀ S7 : zS, (zFin true S7) → (pWant tp sz 41 at5 = .ok (at5 + 1)) → (mFr B nx wt S5 S7) → (mP tp sz S7 (at5 + 1) rd nx wt) → ∀ S13 : zS, (zFin true S13) → (mFr B nx wt S7 S13) → (mP tp sz S13 (at5 + 1) rd (nx + 1) wt) → (mOp S13 nx 4 v5 p []) → ∀ S14 : zS, (zFin true S14) → (mFr B nx wt S13 S14) → (mP tp sz S14 (at5 + 1) rd (nx + 1) wt) → (mT true S14 nx (nx + 1) (tN 4 v5 [] p []) nx) → post (.returned (some (.int (Int32.ofNat nx))), S14)) (h2 : ∀ S5 : zS, ∀ v5 : Nat, ∀ at5 : Nat, (zFin true S5) → (pNum tp sz at0 = .ok (v5, at5)) → (1 ≤ v5) → (v5 < 2147483648) → (at0 ≤ at5) → (at5 ≤ sz) → (mFr B nx wt S S5) → (mP tp sz S5 at5 rd nx wt) → ∀ S8 : zS, (zFin true S8) → (pWant tp sz 41 at5 = .error (1, at5)) → (mFr B nx wt S5 S8) → (mX S8 1 at5) → post (.returned (some (.int (-1))), S8)) (h3 : ∀ S6 : zS, ∀ u6 : Int32, ∀ z6 : Nat, (zFin true S6) → (pNum tp sz at0 = .error (1, z6)) → (z6 ≤ sz) → (mFr B nx wt S S6) → (mX S6 1 z6) → post (.returned (some (.int (-1))), S6)) : zCall d 151 [.ref 1592, .int 4, .int (Int32.ofNat p), .int (Int32.ofNat deep)] S post := by
  have ht : ztab 151 = ztb151 := rfl
  show zEv d 151 0 [.ref 1592, .int 4, .int (Int32.ofNat p), .int (Int32.ofNat deep), .retAddr 0, .retAddr 0, .retAddr 0, .retAddr 0, .retAddr 0] [] S post
  refine zv_c1 ht rfl rfl ?_
  have C2 : ∀ (pst1 : Outcome × zS → Prop), (pst1 (.returned (some (.int 1)), S)) → zCall (d - 1) 125 [.ref 1592] S pst1 := by
    intro pst1 k4
    have ht3 : ztab 125 = ztb125 := rfl
    show zEv (d - 1) 125 0 [.ref 1592] [] S pst1
    refine zv_c1 ht3 rfl rfl ?_
    refine zv_e1 (x := 0) ht3 rfl rfl hP.1.2.2.1 ?_
    refine zv_br ht3 rfl rfl rfl (fun h => absurd h (by decide)) (fun _ => ?_)
    refine zv_c1 ht3 rfl rfl (zv_c1 ht3 rfl rfl ?_)
    exact zv_rc ht3 rfl rfl rfl rfl (by decide) k4
  refine zv_cl ht rfl rfl rfl rfl (by omega) (Nat.le_of_ble_eq_true rfl) (C2 _ ?_)
  show zEv d 151 4 [.ref 1592, .int 4, .int (Int32.ofNat p), .int (Int32.ofNat deep), .retAddr 0, .retAddr 0, .retAddr 0, .retAddr 0, .retAddr 0] [.int 1] S post
  refine zv_br ht rfl rfl rfl (fun _ => ?_) (fun h => absurd (by decide) h)
  refine zv_c1 ht rfl rfl (zv_c1 ht rfl rfl ?_)
  refine zv_br ht rfl rfl rfl (fun h => absurd h (by decide)) (fun _ => ?_)
  refine zv_c1 ht rfl rfl (zv_c1 ht rfl rfl ?_)
  refine zv_br ht rfl rfl rfl (fun h => absurd h (by decide)) (fun _ => ?_)
  refine zv_c1 ht rfl rfl (zv_c1 ht rfl rfl ?_)
  refine zv_br ht rfl rfl rfl (fun h => absurd h (by decide)) (fun _ => ?_)
  refine zv_c1 ht rfl rfl (zv_c1 ht rfl rfl ?_)
  refine zv_br ht rfl rfl rfl (fun _ => ?_) (fun h => absurd (by decide) h)
  refine zv_c1 ht rfl rfl (zv_c1 ht rfl rfl ?_)
  refine zv_br ht rfl rfl rfl (fun _ => ?_) (fun h => absurd (by decide) h)
  refine zv_c1 ht rfl rfl (zv_c1 ht rfl rfl ?_)
  refine zv_br ht rfl rfl rfl (fun h => absurd h (by decide)) (fun _ => ?_)
  refine zv_c1 ht rfl rfl ?_
  refine zv_cl ht rfl rfl rfl rfl (by omega) (Nat.le_of_ble_eq_true rfl) (m_number (S := S) (tp := tp) (sz := sz) (B := B) hF (by omega) hP (fun S5 v5 at5 hF5 e5 a5 b5 c5 g5 k5 p5 => ?_) (fun S6 u6 z6 hF6 e6 a6 k6 x6 => ?_))
  · show zEv d 151 137 [.ref 1592, .int 4, .int (Int32.ofNat p), .int (Int32.ofNat deep), .retAddr 0, .retAddr 0, .retAddr 0, .retAddr 0, .retAddr 0] [.int (Int32.ofNat v5)] S5 post
    refine zv_c1 ht rfl rfl ?_
    refine zv_c2 (L' := [.ref 1592, .int 4, .int (Int32.ofNat p), .int (Int32.ofNat deep), .int (Int32.ofNat v5), .retAddr 0, .retAddr 0, .retAddr 0, .retAddr 0]) ht rfl rfl ?_
    refine zv_c1 ht rfl rfl (zv_c1 ht rfl rfl ?_)
    refine zv_cl ht rfl rfl rfl rfl (by omega) (Nat.le_of_ble_eq_true rfl) (m_want (S := S5) (tp := tp) (sz := sz) (B := B) (w := 41) hF5 (by omega) p5 (by omega) (by omega) (fun S7 hF7 e7 k7 p7 => ?_) (fun S8 hF8 e8 k8 x8 => ?_))
    · show zEv d 151 156 [.ref 1592, .int 4, .int (Int32.ofNat p), .int (Int32.ofNat deep), .int (Int32.ofNat v5), .retAddr 0, .retAddr 0, .retAddr 0, .retAddr 0] [] S7 post
      refine zv_c1 ht rfl rfl ?_
      have C10 : ∀ (pst9 : Outcome × zS → Prop), (pst9 (.returned (some (.int 1)), S7)) → zCall (d - 1) 125 [.ref 1592] S7 pst9 := by
        intro pst9 k12
        have ht11 : ztab 125 = ztb125 := rfl
        show zEv (d - 1) 125 0 [.ref 1592] [] S7 pst9
        refine zv_c1 ht11 rfl rfl ?_
        refine zv_e1 (x := 0) ht11 rfl rfl p7.1.2.2.1 ?_
        refine zv_br ht11 rfl rfl rfl (fun h => absurd h (by decide)) (fun _ => ?_)
        refine zv_c1 ht11 rfl rfl (zv_c1 ht11 rfl rfl ?_)
        exact zv_rc ht11 rfl rfl rfl rfl (by decide) k12
      refine zv_cl ht rfl rfl rfl rfl (by omega) (Nat.le_of_ble_eq_true rfl) (C10 _ ?_)
      show zEv d 151 160 [.ref 1592, .int 4, .int (Int32.ofNat p), .int (Int32.ofNat deep), .int (Int32.ofNat v5), .retAddr 0, .retAddr 0, .retAddr 0, .retAddr 0] [.int 1] S7 post
      refine zv_br ht rfl rfl rfl (fun h => absurd h (by decide)) (fun _ => ?_)
      refine zv_c1 ht rfl rfl (zv_c1 ht rfl rfl (zv_c1 ht rfl rfl (zv_c1 ht rfl rfl (zv_c1 ht rfl rfl ?_))))
      refine zv_cl ht rfl rfl rfl rfl (by omega) (Nat.le_of_ble_eq_true rfl) (m_node (S := S7) (tp := tp) (sz := sz) (B := B) (k := 4) (v := v5) (p := p) hF7 p7 (by omega) (by omega) (by omega) (by omega) (by omega) (fun S13 hF13 k13 p13 o13 => ?_))
      show zEv d 151 172 [.ref 1592, .int 4, .int (Int32.ofNat p), .int (Int32.ofNat deep), .int (Int32.ofNat v5), .retAddr 0, .retAddr 0, .retAddr 0, .retAddr 0] [.int (Int32.ofNat nx), .ref 1592] S13 post
      refine zv_cl ht rfl rfl rfl rfl (by omega) (Nat.le_of_ble_eq_true rfl) (m_leaf (S := S13) (tp := tp) (sz := sz) (B := B) (n := nx) (k := 4) (v := v5) (p := p) hF13 (by omega) p13 (by omega) (by omega) o13 (by omega) (by omega) (by omega) (fun S14 hF14 k14 p14 t14 => ?_))
      show zEv d 151 175 [.ref 1592, .int 4, .int (Int32.ofNat p), .int (Int32.ofNat deep), .int (Int32.ofNat v5), .retAddr 0, .retAddr 0, .retAddr 0, .retAddr 0] [.int (Int32.ofNat nx)] S14 post
      refine zv_c1 ht rfl rfl ?_
      exact zv_rt ht rfl rfl rfl rfl (h1 S5 v5 at5 hF5 e5 a5 b5 c5 g5 k5 p5 S7 hF7 e7 k7 p7 S13 hF13 k13 p13 o13 S14 hF14 k14 p14 t14)
    · show zEv d 151 156 [.ref 1592, .int 4, .int (Int32.ofNat p), .int (Int32.ofNat deep), .int (Int32.ofNat v5), .retAddr 0, .retAddr 0, .retAddr 0, .retAddr 0] [] S8 post
      refine zv_c1 ht rfl rfl ?_
      have C16 : ∀ (pst15 : Outcome × zS → Prop), (pst15 (.returned (some (.int 0)), S8)) → zCall (d - 1) 125 [.ref 1592] S8 pst15 := by
        intro pst15 k18
        have ht17 : ztab 125 = ztb125 := rfl
        show zEv (d - 1) 125 0 [.ref 1592] [] S8 pst15
        refine zv_c1 ht17 rfl rfl ?_
        refine zv_e1 (x := 1) ht17 rfl rfl x8.1 ?_
        refine zv_br ht17 rfl rfl rfl (fun _ => ?_) (fun h => absurd (by decide) h)
        refine zv_c1 ht17 rfl rfl ?_
        exact zv_rc ht17 rfl rfl rfl rfl (by decide) k18
      refine zv_cl ht rfl rfl rfl rfl (by omega) (Nat.le_of_ble_eq_true rfl) (C16 _ ?_)
      show zEv d 151 160 [.ref 1592, .int 4, .int (Int32.ofNat p), .int (Int32.ofNat deep), .int (Int32.ofNat v5), .retAddr 0, .retAddr 0, .retAddr 0, .retAddr 0] [.int 0] S8 post
      refine zv_br ht rfl rfl rfl (fun _ => ?_) (fun h => absurd (by decide) h)
      refine zv_c1 ht rfl rfl ?_
      exact zv_rt ht rfl rfl rfl rfl (h2 S5 v5 at5 hF5 e5 a5 b5 c5 g5 k5 p5 S8 hF8 e8 k8 x8)
  · show zEv d 151 137 [.ref 1592, .int 4, .int (Int32.ofNat p), .int (Int32.ofNat deep), .retAddr 0, .retAddr 0, .retAddr 0, .retAddr 0, .retAddr 0] [.int u6] S6 post
    refine zv_c1 ht rfl rfl ?_
    refine zv_c2 (L' := [.ref 1592, .int 4, .int (Int32.ofNat p), .int (Int32.ofNat deep), .int u6, .retAddr 0, .retAddr 0, .retAddr 0, .retAddr 0]) ht rfl rfl ?_
    refine zv_c1 ht rfl rfl (zv_c1 ht rfl rfl ?_)
    refine zv_cl ht rfl rfl rfl rfl (by omega) (Nat.le_of_ble_eq_true rfl) (m_wantX (S := S6) (w := 41) hF6 (by omega) x6 (by omega) ?_)
    show zEv d 151 156 [.ref 1592, .int 4, .int (Int32.ofNat p), .int (Int32.ofNat deep), .int u6, .retAddr 0, .retAddr 0, .retAddr 0, .retAddr 0] [] S6 post
    refine zv_c1 ht rfl rfl ?_
    have C20 : ∀ (pst19 : Outcome × zS → Prop), (pst19 (.returned (some (.int 0)), S6)) → zCall (d - 1) 125 [.ref 1592] S6 pst19 := by
      intro pst19 k22
      have ht21 : ztab 125 = ztb125 := rfl
      show zEv (d - 1) 125 0 [.ref 1592] [] S6 pst19
      refine zv_c1 ht21 rfl rfl ?_
      refine zv_e1 (x := 1) ht21 rfl rfl x6.1 ?_
      refine zv_br ht21 rfl rfl rfl (fun _ => ?_) (fun h => absurd (by decide) h)
      refine zv_c1 ht21 rfl rfl ?_
      exact zv_rc ht21 rfl rfl rfl rfl (by decide) k22
    refine zv_cl ht rfl rfl rfl rfl (by omega) (Nat.le_of_ble_eq_true rfl) (C20 _ ?_)
    show zEv d 151 160 [.ref 1592, .int 4, .int (Int32.ofNat p), .int (Int32.ofNat deep), .int u6, .retAddr 0, .retAddr 0, .retAddr 0, .retAddr 0] [.int 0] S6 post
    refine zv_br ht rfl rfl rfl (fun _ => ?_) (fun h => absurd (by decide) h)
    refine zv_c1 ht rfl rfl ?_
    exact zv_rt ht rfl rfl rfl rfl (h3 S6 u6 z6 hF6 e6 a6 k6 x6)

theorem ia_5 {d : Nat} {S : zS} (hF : zFin true S) (hd : 7 ≤ d) {tp : Nat → Nat} {sz at0 rd nx wt B : Nat} (p deep : Nat)  (hP : mP tp sz S at0 rd nx wt) (hp : p ≤ 300) (hdp : deep < 2000) (hB : nx + 3 ≤ B) (hB3 : B ≤ 3000) {post : Outcome × zS → Prop} (h1 : ∀ S5 : zS, ∀ v5 : Nat, ∀ at5 : Nat, (zFin true S5) → (pNum tp sz at0 = .ok (v5, at5)) → (1 ≤ v5) → (v5 < 2147483648) → (at0 ≤ at5) → (at5 ≤ sz) → (mFr B nx wt S S5) → (mP tp sz S5 at5 rd nx wt) → ∀ S7 : zS, (zFin true S7) → (pWant tp sz 41 at5 = .ok (at5 + 1)) → (mFr B nx wt S5 S7) → (mP tp sz S7 (at5 + 1) rd nx wt) → ∀ S13 : zS, (zFin true S13) → (mFr B nx wt S7 S13) → (mP tp sz S13 (at5 + 1) rd (nx + 1) wt) → (mOp S13 nx 5 v5 p []) → ∀ S14 : zS, (zFin true S14) → (mFr B nx wt S13 S14) → (mP tp sz S14 (at5 + 1) rd (nx + 1) wt) → (mT true S14 nx (nx + 1) (tN 5 v5 [] p []) nx) → post (.returned (some (.int (Int32.ofNat nx))), S14)) (h2 : ∀ S5 : zS, ∀ v5 : Nat, ∀ at5 : Nat, (zFin true S5) → (pNum tp sz at0 = .ok (v5, at5)) → (1 ≤ v5) → (v5 < 2147483648) → (at0 ≤ at5) → (at5 ≤ sz) → (mFr B nx wt S S5) → (mP tp sz S5 at5 rd nx wt) → ∀ S8 : zS, (zFin true S8) → (pWant tp sz 41 at5 = .error (1, at5)) → (mFr B nx wt S5 S8) → (mX S8 1 at5) → post (.returned (some (.int (-1))), S8)) (h3 : ∀ S6 : zS, ∀ u6 : Int32, ∀ z6 : Nat, (zFin true S6) → (pNum tp sz at0 = .error (1, z6)) → (z6 ≤ sz) → (mFr B nx wt S S6) → (mX S6 1 z6) → post (.returned (some (.int (-1))), S6)) : zCall d 151 [.ref 1592, .int 5, .int (Int32.ofNat p), .int (Int32.ofNat deep)] S post := by
  have ht : ztab 151 = ztb151 := rfl
  show zEv d 151 0 [.ref 1592, .int 5, .int (Int32.ofNat p), .int (Int32.ofNat deep), .retAddr 0, .retAddr 0, .retAddr 0, .retAddr 0, .retAddr 0] [] S post
  refine zv_c1 ht rfl rfl ?_
  have C2 : ∀ (pst1 : Outcome × zS → Prop), (pst1 (.returned (some (.int 1)), S)) → zCall (d - 1) 125 [.ref 1592] S pst1 := by
    intro pst1 k4
    have ht3 : ztab 125 = ztb125 := rfl
    show zEv (d - 1) 125 0 [.ref 1592] [] S pst1
    refine zv_c1 ht3 rfl rfl ?_
    refine zv_e1 (x := 0) ht3 rfl rfl hP.1.2.2.1 ?_
    refine zv_br ht3 rfl rfl rfl (fun h => absurd h (by decide)) (fun _ => ?_)
    refine zv_c1 ht3 rfl rfl (zv_c1 ht3 rfl rfl ?_)
    exact zv_rc ht3 rfl rfl rfl rfl (by decide) k4
  refine zv_cl ht rfl rfl rfl rfl (by omega) (Nat.le_of_ble_eq_true rfl) (C2 _ ?_)
  show zEv d 151 4 [.ref 1592, .int 5, .int (Int32.ofNat p), .int (Int32.ofNat deep), .retAddr 0, .retAddr 0, .retAddr 0, .retAddr 0, .retAddr 0] [.int 1] S post
  refine zv_br ht rfl rfl rfl (fun _ => ?_) (fun h => absurd (by decide) h)
  refine zv_c1 ht rfl rfl (zv_c1 ht rfl rfl ?_)
  refine zv_br ht rfl rfl rfl (fun h => absurd h (by decide)) (fun _ => ?_)
  refine zv_c1 ht rfl rfl (zv_c1 ht rfl rfl ?_)
  refine zv_br ht rfl rfl rfl (fun h => absurd h (by decide)) (fun _ => ?_)
  refine zv_c1 ht rfl rfl (zv_c1 ht rfl rfl ?_)
  refine zv_br ht rfl rfl rfl (fun h => absurd h (by decide)) (fun _ => ?_)
  refine zv_c1 ht rfl rfl (zv_c1 ht rfl rfl ?_)
  refine zv_br ht rfl rfl rfl (fun _ => ?_) (fun h => absurd (by decide) h)
  refine zv_c1 ht rfl rfl (zv_c1 ht rfl rfl ?_)
  refine zv_br ht rfl rfl rfl (fun h => absurd h (by decide)) (fun _ => ?_)
  refine zv_c1 ht rfl rfl (zv_c1 ht rfl rfl ?_)
  refine zv_br ht rfl rfl rfl (fun _ => ?_) (fun h => absurd (by decide) h)
  refine zv_c1 ht rfl rfl (zv_c1 ht rfl rfl ?_)
  refine zv_br ht rfl rfl rfl (fun h => absurd h (by decide)) (fun _ => ?_)
  refine zv_c1 ht rfl rfl ?_
  refine zv_cl ht rfl rfl rfl rfl (by omega) (Nat.le_of_ble_eq_true rfl) (m_number (S := S) (tp := tp) (sz := sz) (B := B) hF (by omega) hP (fun S5 v5 at5 hF5 e5 a5 b5 c5 g5 k5 p5 => ?_) (fun S6 u6 z6 hF6 e6 a6 k6 x6 => ?_))
  · show zEv d 151 137 [.ref 1592, .int 5, .int (Int32.ofNat p), .int (Int32.ofNat deep), .retAddr 0, .retAddr 0, .retAddr 0, .retAddr 0, .retAddr 0] [.int (Int32.ofNat v5)] S5 post
    refine zv_c1 ht rfl rfl ?_
    refine zv_c2 (L' := [.ref 1592, .int 5, .int (Int32.ofNat p), .int (Int32.ofNat deep), .int (Int32.ofNat v5), .retAddr 0, .retAddr 0, .retAddr 0, .retAddr 0]) ht rfl rfl ?_
    refine zv_c1 ht rfl rfl (zv_c1 ht rfl rfl ?_)
    refine zv_cl ht rfl rfl rfl rfl (by omega) (Nat.le_of_ble_eq_true rfl) (m_want (S := S5) (tp := tp) (sz := sz) (B := B) (w := 41) hF5 (by omega) p5 (by omega) (by omega) (fun S7 hF7 e7 k7 p7 => ?_) (fun S8 hF8 e8 k8 x8 => ?_))
    · show zEv d 151 156 [.ref 1592, .int 5, .int (Int32.ofNat p), .int (Int32.ofNat deep), .int (Int32.ofNat v5), .retAddr 0, .retAddr 0, .retAddr 0, .retAddr 0] [] S7 post
      refine zv_c1 ht rfl rfl ?_
      have C10 : ∀ (pst9 : Outcome × zS → Prop), (pst9 (.returned (some (.int 1)), S7)) → zCall (d - 1) 125 [.ref 1592] S7 pst9 := by
        intro pst9 k12
        have ht11 : ztab 125 = ztb125 := rfl
        show zEv (d - 1) 125 0 [.ref 1592] [] S7 pst9
        refine zv_c1 ht11 rfl rfl ?_
        refine zv_e1 (x := 0) ht11 rfl rfl p7.1.2.2.1 ?_
        refine zv_br ht11 rfl rfl rfl (fun h => absurd h (by decide)) (fun _ => ?_)
        refine zv_c1 ht11 rfl rfl (zv_c1 ht11 rfl rfl ?_)
        exact zv_rc ht11 rfl rfl rfl rfl (by decide) k12
      refine zv_cl ht rfl rfl rfl rfl (by omega) (Nat.le_of_ble_eq_true rfl) (C10 _ ?_)
      show zEv d 151 160 [.ref 1592, .int 5, .int (Int32.ofNat p), .int (Int32.ofNat deep), .int (Int32.ofNat v5), .retAddr 0, .retAddr 0, .retAddr 0, .retAddr 0] [.int 1] S7 post
      refine zv_br ht rfl rfl rfl (fun h => absurd h (by decide)) (fun _ => ?_)
      refine zv_c1 ht rfl rfl (zv_c1 ht rfl rfl (zv_c1 ht rfl rfl (zv_c1 ht rfl rfl (zv_c1 ht rfl rfl ?_))))
      refine zv_cl ht rfl rfl rfl rfl (by omega) (Nat.le_of_ble_eq_true rfl) (m_node (S := S7) (tp := tp) (sz := sz) (B := B) (k := 5) (v := v5) (p := p) hF7 p7 (by omega) (by omega) (by omega) (by omega) (by omega) (fun S13 hF13 k13 p13 o13 => ?_))
      show zEv d 151 172 [.ref 1592, .int 5, .int (Int32.ofNat p), .int (Int32.ofNat deep), .int (Int32.ofNat v5), .retAddr 0, .retAddr 0, .retAddr 0, .retAddr 0] [.int (Int32.ofNat nx), .ref 1592] S13 post
      refine zv_cl ht rfl rfl rfl rfl (by omega) (Nat.le_of_ble_eq_true rfl) (m_leaf (S := S13) (tp := tp) (sz := sz) (B := B) (n := nx) (k := 5) (v := v5) (p := p) hF13 (by omega) p13 (by omega) (by omega) o13 (by omega) (by omega) (by omega) (fun S14 hF14 k14 p14 t14 => ?_))
      show zEv d 151 175 [.ref 1592, .int 5, .int (Int32.ofNat p), .int (Int32.ofNat deep), .int (Int32.ofNat v5), .retAddr 0, .retAddr 0, .retAddr 0, .retAddr 0] [.int (Int32.ofNat nx)] S14 post
      refine zv_c1 ht rfl rfl ?_
      exact zv_rt ht rfl rfl rfl rfl (h1 S5 v5 at5 hF5 e5 a5 b5 c5 g5 k5 p5 S7 hF7 e7 k7 p7 S13 hF13 k13 p13 o13 S14 hF14 k14 p14 t14)
    · show zEv d 151 156 [.ref 1592, .int 5, .int (Int32.ofNat p), .int (Int32.ofNat deep), .int (Int32.ofNat v5), .retAddr 0, .retAddr 0, .retAddr 0, .retAddr 0] [] S8 post
      refine zv_c1 ht rfl rfl ?_
      have C16 : ∀ (pst15 : Outcome × zS → Prop), (pst15 (.returned (some (.int 0)), S8)) → zCall (d - 1) 125 [.ref 1592] S8 pst15 := by
        intro pst15 k18
        have ht17 : ztab 125 = ztb125 := rfl
        show zEv (d - 1) 125 0 [.ref 1592] [] S8 pst15
        refine zv_c1 ht17 rfl rfl ?_
        refine zv_e1 (x := 1) ht17 rfl rfl x8.1 ?_
        refine zv_br ht17 rfl rfl rfl (fun _ => ?_) (fun h => absurd (by decide) h)
        refine zv_c1 ht17 rfl rfl ?_
        exact zv_rc ht17 rfl rfl rfl rfl (by decide) k18
      refine zv_cl ht rfl rfl rfl rfl (by omega) (Nat.le_of_ble_eq_true rfl) (C16 _ ?_)
      show zEv d 151 160 [.ref 1592, .int 5, .int (Int32.ofNat p), .int (Int32.ofNat deep), .int (Int32.ofNat v5), .retAddr 0, .retAddr 0, .retAddr 0, .retAddr 0] [.int 0] S8 post
      refine zv_br ht rfl rfl rfl (fun _ => ?_) (fun h => absurd (by decide) h)
      refine zv_c1 ht rfl rfl ?_
      exact zv_rt ht rfl rfl rfl rfl (h2 S5 v5 at5 hF5 e5 a5 b5 c5 g5 k5 p5 S8 hF8 e8 k8 x8)
  · show zEv d 151 137 [.ref 1592, .int 5, .int (Int32.ofNat p), .int (Int32.ofNat deep), .retAddr 0, .retAddr 0, .retAddr 0, .retAddr 0, .retAddr 0] [.int u6] S6 post
    refine zv_c1 ht rfl rfl ?_
    refine zv_c2 (L' := [.ref 1592, .int 5, .int (Int32.ofNat p), .int (Int32.ofNat deep), .int u6, .retAddr 0, .retAddr 0, .retAddr 0, .retAddr 0]) ht rfl rfl ?_
    refine zv_c1 ht rfl rfl (zv_c1 ht rfl rfl ?_)
    refine zv_cl ht rfl rfl rfl rfl (by omega) (Nat.le_of_ble_eq_true rfl) (m_wantX (S := S6) (w := 41) hF6 (by omega) x6 (by omega) ?_)
    show zEv d 151 156 [.ref 1592, .int 5, .int (Int32.ofNat p), .int (Int32.ofNat deep), .int u6, .retAddr 0, .retAddr 0, .retAddr 0, .retAddr 0] [] S6 post
    refine zv_c1 ht rfl rfl ?_
    have C20 : ∀ (pst19 : Outcome × zS → Prop), (pst19 (.returned (some (.int 0)), S6)) → zCall (d - 1) 125 [.ref 1592] S6 pst19 := by
      intro pst19 k22
      have ht21 : ztab 125 = ztb125 := rfl
      show zEv (d - 1) 125 0 [.ref 1592] [] S6 pst19
      refine zv_c1 ht21 rfl rfl ?_
      refine zv_e1 (x := 1) ht21 rfl rfl x6.1 ?_
      refine zv_br ht21 rfl rfl rfl (fun _ => ?_) (fun h => absurd (by decide) h)
      refine zv_c1 ht21 rfl rfl ?_
      exact zv_rc ht21 rfl rfl rfl rfl (by decide) k22
    refine zv_cl ht rfl rfl rfl rfl (by omega) (Nat.le_of_ble_eq_true rfl) (C20 _ ?_)
    show zEv d 151 160 [.ref 1592, .int 5, .int (Int32.ofNat p), .int (Int32.ofNat deep), .int u6, .retAddr 0, .retAddr 0, .retAddr 0, .retAddr 0] [.int 0] S6 post
    refine zv_br ht rfl rfl rfl (fun _ => ?_) (fun h => absurd (by decide) h)
    refine zv_c1 ht rfl rfl ?_
    exact zv_rt ht rfl rfl rfl rfl (h3 S6 u6 z6 hF6 e6 a6 k6 x6)

theorem ia_6 {d : Nat} {S : zS} (hF : zFin true S) (hd : 7 ≤ d) {tp : Nat → Nat} {sz at0 rd nx wt B : Nat} (p deep : Nat)  (hP : mP tp sz S at0 rd nx wt) (hp : p ≤ 300) (hdp : deep < 2000) (hB : nx + 3 ≤ B) (hB3 : B ≤ 3000) {post : Outcome × zS → Prop} (h1 : ∀ S9 : zS, ∀ v9 : Nat, (zFin true S9) → (pLet tp sz 48 55 at0 = .ok (v9, at0 + 1)) → (v9 ≤ 55 - 48) → (mFr B nx wt S S9) → (mP tp sz S9 (at0 + 1) rd nx wt) → ∀ S11 : zS, (zFin true S11) → (pWant tp sz 41 (at0 + 1) = .ok ((at0 + 1) + 1)) → (mFr B nx wt S9 S11) → (mP tp sz S11 ((at0 + 1) + 1) rd nx wt) → ∀ S17 : zS, (zFin true S17) → (mFr B nx wt S11 S17) → (mP tp sz S17 ((at0 + 1) + 1) rd (nx + 1) wt) → (mOp S17 nx 6 v9 p []) → ∀ S18 : zS, (zFin true S18) → (mFr B nx wt S17 S18) → (mP tp sz S18 ((at0 + 1) + 1) rd (nx + 1) wt) → (mT true S18 nx (nx + 1) (tN 6 v9 [] p []) nx) → post (.returned (some (.int (Int32.ofNat nx))), S18)) (h2 : ∀ S9 : zS, ∀ v9 : Nat, (zFin true S9) → (pLet tp sz 48 55 at0 = .ok (v9, at0 + 1)) → (v9 ≤ 55 - 48) → (mFr B nx wt S S9) → (mP tp sz S9 (at0 + 1) rd nx wt) → ∀ S12 : zS, (zFin true S12) → (pWant tp sz 41 (at0 + 1) = .error (1, (at0 + 1))) → (mFr B nx wt S9 S12) → (mX S12 1 (at0 + 1)) → post (.returned (some (.int (-1))), S12)) (h3 : ∀ S10 : zS, ∀ u10 : Int32, (zFin true S10) → (pLet tp sz 48 55 at0 = .error (1, at0)) → (mFr B nx wt S S10) → (mX S10 1 at0) → post (.returned (some (.int (-1))), S10)) : zCall d 151 [.ref 1592, .int 6, .int (Int32.ofNat p), .int (Int32.ofNat deep)] S post := by
  have ht : ztab 151 = ztb151 := rfl
  show zEv d 151 0 [.ref 1592, .int 6, .int (Int32.ofNat p), .int (Int32.ofNat deep), .retAddr 0, .retAddr 0, .retAddr 0, .retAddr 0, .retAddr 0] [] S post
  refine zv_c1 ht rfl rfl ?_
  have C2 : ∀ (pst1 : Outcome × zS → Prop), (pst1 (.returned (some (.int 1)), S)) → zCall (d - 1) 125 [.ref 1592] S pst1 := by
    intro pst1 k4
    have ht3 : ztab 125 = ztb125 := rfl
    show zEv (d - 1) 125 0 [.ref 1592] [] S pst1
    refine zv_c1 ht3 rfl rfl ?_
    refine zv_e1 (x := 0) ht3 rfl rfl hP.1.2.2.1 ?_
    refine zv_br ht3 rfl rfl rfl (fun h => absurd h (by decide)) (fun _ => ?_)
    refine zv_c1 ht3 rfl rfl (zv_c1 ht3 rfl rfl ?_)
    exact zv_rc ht3 rfl rfl rfl rfl (by decide) k4
  refine zv_cl ht rfl rfl rfl rfl (by omega) (Nat.le_of_ble_eq_true rfl) (C2 _ ?_)
  show zEv d 151 4 [.ref 1592, .int 6, .int (Int32.ofNat p), .int (Int32.ofNat deep), .retAddr 0, .retAddr 0, .retAddr 0, .retAddr 0, .retAddr 0] [.int 1] S post
  refine zv_br ht rfl rfl rfl (fun _ => ?_) (fun h => absurd (by decide) h)
  refine zv_c1 ht rfl rfl (zv_c1 ht rfl rfl ?_)
  refine zv_br ht rfl rfl rfl (fun h => absurd h (by decide)) (fun _ => ?_)
  refine zv_c1 ht rfl rfl (zv_c1 ht rfl rfl ?_)
  refine zv_br ht rfl rfl rfl (fun h => absurd h (by decide)) (fun _ => ?_)
  refine zv_c1 ht rfl rfl (zv_c1 ht rfl rfl ?_)
  refine zv_br ht rfl rfl rfl (fun h => absurd h (by decide)) (fun _ => ?_)
  refine zv_c1 ht rfl rfl (zv_c1 ht rfl rfl ?_)
  refine zv_br ht rfl rfl rfl (fun _ => ?_) (fun h => absurd (by decide) h)
  refine zv_c1 ht rfl rfl (zv_c1 ht rfl rfl ?_)
  refine zv_br ht rfl rfl rfl (fun h => absurd h (by decide)) (fun _ => ?_)
  refine zv_c1 ht rfl rfl (zv_c1 ht rfl rfl ?_)
  refine zv_br ht rfl rfl rfl (fun h => absurd h (by decide)) (fun _ => ?_)
  refine zv_c1 ht rfl rfl (zv_c1 ht rfl rfl (zv_c1 ht rfl rfl ?_))
  have C6 : ∀ (pst5 : Outcome × zS → Prop), (pst5 (.returned (some (.int 1)), S)) → zCall (d - 1) 102 [.int 6, .int 6, .int 9] S pst5 := by
    intro pst5 k8
    have ht7 : ztab 102 = ztb102 := rfl
    show zEv (d - 1) 102 0 [.int 6, .int 6, .int 9] [] S pst5
    refine zv_c1 ht7 rfl rfl (zv_c1 ht7 rfl rfl ?_)
    refine zv_br ht7 rfl rfl rfl (fun h => absurd h (by decide)) (fun _ => ?_)
    refine zv_c1 ht7 rfl rfl (zv_c1 ht7 rfl rfl ?_)
    refine zv_br ht7 rfl rfl rfl (fun h => absurd h (by decide)) (fun _ => ?_)
    refine zv_c1 ht7 rfl rfl (zv_c1 ht7 rfl rfl ?_)
    exact zv_rc ht7 rfl rfl rfl rfl (by decide) k8
  refine zv_cl ht rfl rfl rfl rfl (by omega) (Nat.le_of_ble_eq_true rfl) (C6 _ ?_)
  show zEv d 151 124 [.ref 1592, .int 6, .int (Int32.ofNat p), .int (Int32.ofNat deep), .retAddr 0, .retAddr 0, .retAddr 0, .retAddr 0, .retAddr 0] [.int 1] S post
  refine zv_br ht rfl rfl rfl (fun h => absurd h (by decide)) (fun _ => ?_)
  refine zv_c1 ht rfl rfl (zv_c1 ht rfl rfl ?_)
  refine zv_br ht rfl rfl rfl (fun _ => ?_) (fun h => absurd (by decide) h)
  refine zv_c1 ht rfl rfl (zv_c1 ht rfl rfl (zv_c1 ht rfl rfl ?_))
  refine zv_cl ht rfl rfl rfl rfl (by omega) (Nat.le_of_ble_eq_true rfl) (m_letter (S := S) (tp := tp) (sz := sz) (B := B) (lo := 48) (hi := 55) hF (by omega) hP (by omega) (by omega) (by omega) (fun S9 v9 hF9 e9 b9 k9 p9 => ?_) (fun S10 u10 hF10 e10 k10 x10 => ?_))
  · show zEv d 151 148 [.ref 1592, .int 6, .int (Int32.ofNat p), .int (Int32.ofNat deep), .retAddr 0, .retAddr 0, .retAddr 0, .retAddr 0, .retAddr 0] [.int (Int32.ofNat v9)] S9 post
    refine zv_c2 (L' := [.ref 1592, .int 6, .int (Int32.ofNat p), .int (Int32.ofNat deep), .int (Int32.ofNat v9), .retAddr 0, .retAddr 0, .retAddr 0, .retAddr 0]) ht rfl rfl ?_
    refine zv_c1 ht rfl rfl (zv_c1 ht rfl rfl ?_)
    refine zv_cl ht rfl rfl rfl rfl (by omega) (Nat.le_of_ble_eq_true rfl) (m_want (S := S9) (tp := tp) (sz := sz) (B := B) (w := 41) hF9 (by omega) p9 (by omega) (by omega) (fun S11 hF11 e11 k11 p11 => ?_) (fun S12 hF12 e12 k12 x12 => ?_))
    · show zEv d 151 156 [.ref 1592, .int 6, .int (Int32.ofNat p), .int (Int32.ofNat deep), .int (Int32.ofNat v9), .retAddr 0, .retAddr 0, .retAddr 0, .retAddr 0] [] S11 post
      refine zv_c1 ht rfl rfl ?_
      have C14 : ∀ (pst13 : Outcome × zS → Prop), (pst13 (.returned (some (.int 1)), S11)) → zCall (d - 1) 125 [.ref 1592] S11 pst13 := by
        intro pst13 k16
        have ht15 : ztab 125 = ztb125 := rfl
        show zEv (d - 1) 125 0 [.ref 1592] [] S11 pst13
        refine zv_c1 ht15 rfl rfl ?_
        refine zv_e1 (x := 0) ht15 rfl rfl p11.1.2.2.1 ?_
        refine zv_br ht15 rfl rfl rfl (fun h => absurd h (by decide)) (fun _ => ?_)
        refine zv_c1 ht15 rfl rfl (zv_c1 ht15 rfl rfl ?_)
        exact zv_rc ht15 rfl rfl rfl rfl (by decide) k16
      refine zv_cl ht rfl rfl rfl rfl (by omega) (Nat.le_of_ble_eq_true rfl) (C14 _ ?_)
      show zEv d 151 160 [.ref 1592, .int 6, .int (Int32.ofNat p), .int (Int32.ofNat deep), .int (Int32.ofNat v9), .retAddr 0, .retAddr 0, .retAddr 0, .retAddr 0] [.int 1] S11 post
      refine zv_br ht rfl rfl rfl (fun h => absurd h (by decide)) (fun _ => ?_)
      refine zv_c1 ht rfl rfl (zv_c1 ht rfl rfl (zv_c1 ht rfl rfl (zv_c1 ht rfl rfl (zv_c1 ht rfl rfl ?_))))
      refine zv_cl ht rfl rfl rfl rfl (by omega) (Nat.le_of_ble_eq_true rfl) (m_node (S := S11) (tp := tp) (sz := sz) (B := B) (k := 6) (v := v9) (p := p) hF11 p11 (by omega) (by omega) (by omega) (by omega) (by omega) (fun S17 hF17 k17 p17 o17 => ?_))
      show zEv d 151 172 [.ref 1592, .int 6, .int (Int32.ofNat p), .int (Int32.ofNat deep), .int (Int32.ofNat v9), .retAddr 0, .retAddr 0, .retAddr 0, .retAddr 0] [.int (Int32.ofNat nx), .ref 1592] S17 post
      refine zv_cl ht rfl rfl rfl rfl (by omega) (Nat.le_of_ble_eq_true rfl) (m_leaf (S := S17) (tp := tp) (sz := sz) (B := B) (n := nx) (k := 6) (v := v9) (p := p) hF17 (by omega) p17 (by omega) (by omega) o17 (by omega) (by omega) (by omega) (fun S18 hF18 k18 p18 t18 => ?_))
      show zEv d 151 175 [.ref 1592, .int 6, .int (Int32.ofNat p), .int (Int32.ofNat deep), .int (Int32.ofNat v9), .retAddr 0, .retAddr 0, .retAddr 0, .retAddr 0] [.int (Int32.ofNat nx)] S18 post
      refine zv_c1 ht rfl rfl ?_
      exact zv_rt ht rfl rfl rfl rfl (h1 S9 v9 hF9 e9 b9 k9 p9 S11 hF11 e11 k11 p11 S17 hF17 k17 p17 o17 S18 hF18 k18 p18 t18)
    · show zEv d 151 156 [.ref 1592, .int 6, .int (Int32.ofNat p), .int (Int32.ofNat deep), .int (Int32.ofNat v9), .retAddr 0, .retAddr 0, .retAddr 0, .retAddr 0] [] S12 post
      refine zv_c1 ht rfl rfl ?_
      have C20 : ∀ (pst19 : Outcome × zS → Prop), (pst19 (.returned (some (.int 0)), S12)) → zCall (d - 1) 125 [.ref 1592] S12 pst19 := by
        intro pst19 k22
        have ht21 : ztab 125 = ztb125 := rfl
        show zEv (d - 1) 125 0 [.ref 1592] [] S12 pst19
        refine zv_c1 ht21 rfl rfl ?_
        refine zv_e1 (x := 1) ht21 rfl rfl x12.1 ?_
        refine zv_br ht21 rfl rfl rfl (fun _ => ?_) (fun h => absurd (by decide) h)
        refine zv_c1 ht21 rfl rfl ?_
        exact zv_rc ht21 rfl rfl rfl rfl (by decide) k22
      refine zv_cl ht rfl rfl rfl rfl (by omega) (Nat.le_of_ble_eq_true rfl) (C20 _ ?_)
      show zEv d 151 160 [.ref 1592, .int 6, .int (Int32.ofNat p), .int (Int32.ofNat deep), .int (Int32.ofNat v9), .retAddr 0, .retAddr 0, .retAddr 0, .retAddr 0] [.int 0] S12 post
      refine zv_br ht rfl rfl rfl (fun _ => ?_) (fun h => absurd (by decide) h)
      refine zv_c1 ht rfl rfl ?_
      exact zv_rt ht rfl rfl rfl rfl (h2 S9 v9 hF9 e9 b9 k9 p9 S12 hF12 e12 k12 x12)
  · show zEv d 151 148 [.ref 1592, .int 6, .int (Int32.ofNat p), .int (Int32.ofNat deep), .retAddr 0, .retAddr 0, .retAddr 0, .retAddr 0, .retAddr 0] [.int u10] S10 post
    refine zv_c2 (L' := [.ref 1592, .int 6, .int (Int32.ofNat p), .int (Int32.ofNat deep), .int u10, .retAddr 0, .retAddr 0, .retAddr 0, .retAddr 0]) ht rfl rfl ?_
    refine zv_c1 ht rfl rfl (zv_c1 ht rfl rfl ?_)
    refine zv_cl ht rfl rfl rfl rfl (by omega) (Nat.le_of_ble_eq_true rfl) (m_wantX (S := S10) (w := 41) hF10 (by omega) x10 (by omega) ?_)
    show zEv d 151 156 [.ref 1592, .int 6, .int (Int32.ofNat p), .int (Int32.ofNat deep), .int u10, .retAddr 0, .retAddr 0, .retAddr 0, .retAddr 0] [] S10 post
    refine zv_c1 ht rfl rfl ?_
    have C24 : ∀ (pst23 : Outcome × zS → Prop), (pst23 (.returned (some (.int 0)), S10)) → zCall (d - 1) 125 [.ref 1592] S10 pst23 := by
      intro pst23 k26
      have ht25 : ztab 125 = ztb125 := rfl
      show zEv (d - 1) 125 0 [.ref 1592] [] S10 pst23
      refine zv_c1 ht25 rfl rfl ?_
      refine zv_e1 (x := 1) ht25 rfl rfl x10.1 ?_
      refine zv_br ht25 rfl rfl rfl (fun _ => ?_) (fun h => absurd (by decide) h)
      refine zv_c1 ht25 rfl rfl ?_
      exact zv_rc ht25 rfl rfl rfl rfl (by decide) k26
    refine zv_cl ht rfl rfl rfl rfl (by omega) (Nat.le_of_ble_eq_true rfl) (C24 _ ?_)
    show zEv d 151 160 [.ref 1592, .int 6, .int (Int32.ofNat p), .int (Int32.ofNat deep), .int u10, .retAddr 0, .retAddr 0, .retAddr 0, .retAddr 0] [.int 0] S10 post
    refine zv_br ht rfl rfl rfl (fun _ => ?_) (fun h => absurd (by decide) h)
    refine zv_c1 ht rfl rfl ?_
    exact zv_rt ht rfl rfl rfl rfl (h3 S10 u10 hF10 e10 k10 x10)

theorem ia_7 {d : Nat} {S : zS} (hF : zFin true S) (hd : 7 ≤ d) {tp : Nat → Nat} {sz at0 rd nx wt B : Nat} (p deep : Nat)  (hP : mP tp sz S at0 rd nx wt) (hp : p ≤ 300) (hdp : deep < 2000) (hB : nx + 3 ≤ B) (hB3 : B ≤ 3000) {post : Outcome × zS → Prop} (h1 : ∀ S9 : zS, ∀ v9 : Nat, (zFin true S9) → (pLet tp sz 48 55 at0 = .ok (v9, at0 + 1)) → (v9 ≤ 55 - 48) → (mFr B nx wt S S9) → (mP tp sz S9 (at0 + 1) rd nx wt) → ∀ S11 : zS, (zFin true S11) → (pWant tp sz 41 (at0 + 1) = .ok ((at0 + 1) + 1)) → (mFr B nx wt S9 S11) → (mP tp sz S11 ((at0 + 1) + 1) rd nx wt) → ∀ S17 : zS, (zFin true S17) → (mFr B nx wt S11 S17) → (mP tp sz S17 ((at0 + 1) + 1) rd (nx + 1) wt) → (mOp S17 nx 7 v9 p []) → ∀ S18 : zS, (zFin true S18) → (mFr B nx wt S17 S18) → (mP tp sz S18 ((at0 + 1) + 1) rd (nx + 1) wt) → (mT true S18 nx (nx + 1) (tN 7 v9 [] p []) nx) → post (.returned (some (.int (Int32.ofNat nx))), S18)) (h2 : ∀ S9 : zS, ∀ v9 : Nat, (zFin true S9) → (pLet tp sz 48 55 at0 = .ok (v9, at0 + 1)) → (v9 ≤ 55 - 48) → (mFr B nx wt S S9) → (mP tp sz S9 (at0 + 1) rd nx wt) → ∀ S12 : zS, (zFin true S12) → (pWant tp sz 41 (at0 + 1) = .error (1, (at0 + 1))) → (mFr B nx wt S9 S12) → (mX S12 1 (at0 + 1)) → post (.returned (some (.int (-1))), S12)) (h3 : ∀ S10 : zS, ∀ u10 : Int32, (zFin true S10) → (pLet tp sz 48 55 at0 = .error (1, at0)) → (mFr B nx wt S S10) → (mX S10 1 at0) → post (.returned (some (.int (-1))), S10)) : zCall d 151 [.ref 1592, .int 7, .int (Int32.ofNat p), .int (Int32.ofNat deep)] S post := by
  have ht : ztab 151 = ztb151 := rfl
  show zEv d 151 0 [.ref 1592, .int 7, .int (Int32.ofNat p), .int (Int32.ofNat deep), .retAddr 0, .retAddr 0, .retAddr 0, .retAddr 0, .retAddr 0] [] S post
  refine zv_c1 ht rfl rfl ?_
  have C2 : ∀ (pst1 : Outcome × zS → Prop), (pst1 (.returned (some (.int 1)), S)) → zCall (d - 1) 125 [.ref 1592] S pst1 := by
    intro pst1 k4
    have ht3 : ztab 125 = ztb125 := rfl
    show zEv (d - 1) 125 0 [.ref 1592] [] S pst1
    refine zv_c1 ht3 rfl rfl ?_
    refine zv_e1 (x := 0) ht3 rfl rfl hP.1.2.2.1 ?_
    refine zv_br ht3 rfl rfl rfl (fun h => absurd h (by decide)) (fun _ => ?_)
    refine zv_c1 ht3 rfl rfl (zv_c1 ht3 rfl rfl ?_)
    exact zv_rc ht3 rfl rfl rfl rfl (by decide) k4
  refine zv_cl ht rfl rfl rfl rfl (by omega) (Nat.le_of_ble_eq_true rfl) (C2 _ ?_)
  show zEv d 151 4 [.ref 1592, .int 7, .int (Int32.ofNat p), .int (Int32.ofNat deep), .retAddr 0, .retAddr 0, .retAddr 0, .retAddr 0, .retAddr 0] [.int 1] S post
  refine zv_br ht rfl rfl rfl (fun _ => ?_) (fun h => absurd (by decide) h)
  refine zv_c1 ht rfl rfl (zv_c1 ht rfl rfl ?_)
  refine zv_br ht rfl rfl rfl (fun h => absurd h (by decide)) (fun _ => ?_)
  refine zv_c1 ht rfl rfl (zv_c1 ht rfl rfl ?_)
  refine zv_br ht rfl rfl rfl (fun h => absurd h (by decide)) (fun _ => ?_)
  refine zv_c1 ht rfl rfl (zv_c1 ht rfl rfl ?_)
  refine zv_br ht rfl rfl rfl (fun h => absurd h (by decide)) (fun _ => ?_)
  refine zv_c1 ht rfl rfl (zv_c1 ht rfl rfl ?_)
  refine zv_br ht rfl rfl rfl (fun _ => ?_) (fun h => absurd (by decide) h)
  refine zv_c1 ht rfl rfl (zv_c1 ht rfl rfl ?_)
  refine zv_br ht rfl rfl rfl (fun h => absurd h (by decide)) (fun _ => ?_)
  refine zv_c1 ht rfl rfl (zv_c1 ht rfl rfl ?_)
  refine zv_br ht rfl rfl rfl (fun h => absurd h (by decide)) (fun _ => ?_)
  refine zv_c1 ht rfl rfl (zv_c1 ht rfl rfl (zv_c1 ht rfl rfl ?_))
  have C6 : ∀ (pst5 : Outcome × zS → Prop), (pst5 (.returned (some (.int 1)), S)) → zCall (d - 1) 102 [.int 7, .int 6, .int 9] S pst5 := by
    intro pst5 k8
    have ht7 : ztab 102 = ztb102 := rfl
    show zEv (d - 1) 102 0 [.int 7, .int 6, .int 9] [] S pst5
    refine zv_c1 ht7 rfl rfl (zv_c1 ht7 rfl rfl ?_)
    refine zv_br ht7 rfl rfl rfl (fun h => absurd h (by decide)) (fun _ => ?_)
    refine zv_c1 ht7 rfl rfl (zv_c1 ht7 rfl rfl ?_)
    refine zv_br ht7 rfl rfl rfl (fun h => absurd h (by decide)) (fun _ => ?_)
    refine zv_c1 ht7 rfl rfl (zv_c1 ht7 rfl rfl ?_)
    exact zv_rc ht7 rfl rfl rfl rfl (by decide) k8
  refine zv_cl ht rfl rfl rfl rfl (by omega) (Nat.le_of_ble_eq_true rfl) (C6 _ ?_)
  show zEv d 151 124 [.ref 1592, .int 7, .int (Int32.ofNat p), .int (Int32.ofNat deep), .retAddr 0, .retAddr 0, .retAddr 0, .retAddr 0, .retAddr 0] [.int 1] S post
  refine zv_br ht rfl rfl rfl (fun h => absurd h (by decide)) (fun _ => ?_)
  refine zv_c1 ht rfl rfl (zv_c1 ht rfl rfl ?_)
  refine zv_br ht rfl rfl rfl (fun _ => ?_) (fun h => absurd (by decide) h)
  refine zv_c1 ht rfl rfl (zv_c1 ht rfl rfl (zv_c1 ht rfl rfl ?_))
  refine zv_cl ht rfl rfl rfl rfl (by omega) (Nat.le_of_ble_eq_true rfl) (m_letter (S := S) (tp := tp) (sz := sz) (B := B) (lo := 48) (hi := 55) hF (by omega) hP (by omega) (by omega) (by omega) (fun S9 v9 hF9 e9 b9 k9 p9 => ?_) (fun S10 u10 hF10 e10 k10 x10 => ?_))
  · show zEv d 151 148 [.ref 1592, .int 7, .int (Int32.ofNat p), .int (Int32.ofNat deep), .retAddr 0, .retAddr 0, .retAddr 0, .retAddr 0, .retAddr 0] [.int (Int32.ofNat v9)] S9 post
    refine zv_c2 (L' := [.ref 1592, .int 7, .int (Int32.ofNat p), .int (Int32.ofNat deep), .int (Int32.ofNat v9), .retAddr 0, .retAddr 0, .retAddr 0, .retAddr 0]) ht rfl rfl ?_
    refine zv_c1 ht rfl rfl (zv_c1 ht rfl rfl ?_)
    refine zv_cl ht rfl rfl rfl rfl (by omega) (Nat.le_of_ble_eq_true rfl) (m_want (S := S9) (tp := tp) (sz := sz) (B := B) (w := 41) hF9 (by omega) p9 (by omega) (by omega) (fun S11 hF11 e11 k11 p11 => ?_) (fun S12 hF12 e12 k12 x12 => ?_))
    · show zEv d 151 156 [.ref 1592, .int 7, .int (Int32.ofNat p), .int (Int32.ofNat deep), .int (Int32.ofNat v9), .retAddr 0, .retAddr 0, .retAddr 0, .retAddr 0] [] S11 post
      refine zv_c1 ht rfl rfl ?_
      have C14 : ∀ (pst13 : Outcome × zS → Prop), (pst13 (.returned (some (.int 1)), S11)) → zCall (d - 1) 125 [.ref 1592] S11 pst13 := by
        intro pst13 k16
        have ht15 : ztab 125 = ztb125 := rfl
        show zEv (d - 1) 125 0 [.ref 1592] [] S11 pst13
        refine zv_c1 ht15 rfl rfl ?_
        refine zv_e1 (x := 0) ht15 rfl rfl p11.1.2.2.1 ?_
        refine zv_br ht15 rfl rfl rfl (fun h => absurd h (by decide)) (fun _ => ?_)
        refine zv_c1 ht15 rfl rfl (zv_c1 ht15 rfl rfl ?_)
        exact zv_rc ht15 rfl rfl rfl rfl (by decide) k16
      refine zv_cl ht rfl rfl rfl rfl (by omega) (Nat.le_of_ble_eq_true rfl) (C14 _ ?_)
      show zEv d 151 160 [.ref 1592, .int 7, .int (Int32.ofNat p), .int (Int32.ofNat deep), .int (Int32.ofNat v9), .retAddr 0, .retAddr 0, .retAddr 0, .retAddr 0] [.int 1] S11 post
      refine zv_br ht rfl rfl rfl (fun h => absurd h (by decide)) (fun _ => ?_)
      refine zv_c1 ht rfl rfl (zv_c1 ht rfl rfl (zv_c1 ht rfl rfl (zv_c1 ht rfl rfl (zv_c1 ht rfl rfl ?_))))
      refine zv_cl ht rfl rfl rfl rfl (by omega) (Nat.le_of_ble_eq_true rfl) (m_node (S := S11) (tp := tp) (sz := sz) (B := B) (k := 7) (v := v9) (p := p) hF11 p11 (by omega) (by omega) (by omega) (by omega) (by omega) (fun S17 hF17 k17 p17 o17 => ?_))
      show zEv d 151 172 [.ref 1592, .int 7, .int (Int32.ofNat p), .int (Int32.ofNat deep), .int (Int32.ofNat v9), .retAddr 0, .retAddr 0, .retAddr 0, .retAddr 0] [.int (Int32.ofNat nx), .ref 1592] S17 post
      refine zv_cl ht rfl rfl rfl rfl (by omega) (Nat.le_of_ble_eq_true rfl) (m_leaf (S := S17) (tp := tp) (sz := sz) (B := B) (n := nx) (k := 7) (v := v9) (p := p) hF17 (by omega) p17 (by omega) (by omega) o17 (by omega) (by omega) (by omega) (fun S18 hF18 k18 p18 t18 => ?_))
      show zEv d 151 175 [.ref 1592, .int 7, .int (Int32.ofNat p), .int (Int32.ofNat deep), .int (Int32.ofNat v9), .retAddr 0, .retAddr 0, .retAddr 0, .retAddr 0] [.int (Int32.ofNat nx)] S18 post
      refine zv_c1 ht rfl rfl ?_
      exact zv_rt ht rfl rfl rfl rfl (h1 S9 v9 hF9 e9 b9 k9 p9 S11 hF11 e11 k11 p11 S17 hF17 k17 p17 o17 S18 hF18 k18 p18 t18)
    · show zEv d 151 156 [.ref 1592, .int 7, .int (Int32.ofNat p), .int (Int32.ofNat deep), .int (Int32.ofNat v9), .retAddr 0, .retAddr 0, .retAddr 0, .retAddr 0] [] S12 post
      refine zv_c1 ht rfl rfl ?_
      have C20 : ∀ (pst19 : Outcome × zS → Prop), (pst19 (.returned (some (.int 0)), S12)) → zCall (d - 1) 125 [.ref 1592] S12 pst19 := by
        intro pst19 k22
        have ht21 : ztab 125 = ztb125 := rfl
        show zEv (d - 1) 125 0 [.ref 1592] [] S12 pst19
        refine zv_c1 ht21 rfl rfl ?_
        refine zv_e1 (x := 1) ht21 rfl rfl x12.1 ?_
        refine zv_br ht21 rfl rfl rfl (fun _ => ?_) (fun h => absurd (by decide) h)
        refine zv_c1 ht21 rfl rfl ?_
        exact zv_rc ht21 rfl rfl rfl rfl (by decide) k22
      refine zv_cl ht rfl rfl rfl rfl (by omega) (Nat.le_of_ble_eq_true rfl) (C20 _ ?_)
      show zEv d 151 160 [.ref 1592, .int 7, .int (Int32.ofNat p), .int (Int32.ofNat deep), .int (Int32.ofNat v9), .retAddr 0, .retAddr 0, .retAddr 0, .retAddr 0] [.int 0] S12 post
      refine zv_br ht rfl rfl rfl (fun _ => ?_) (fun h => absurd (by decide) h)
      refine zv_c1 ht rfl rfl ?_
      exact zv_rt ht rfl rfl rfl rfl (h2 S9 v9 hF9 e9 b9 k9 p9 S12 hF12 e12 k12 x12)
  · show zEv d 151 148 [.ref 1592, .int 7, .int (Int32.ofNat p), .int (Int32.ofNat deep), .retAddr 0, .retAddr 0, .retAddr 0, .retAddr 0, .retAddr 0] [.int u10] S10 post
    refine zv_c2 (L' := [.ref 1592, .int 7, .int (Int32.ofNat p), .int (Int32.ofNat deep), .int u10, .retAddr 0, .retAddr 0, .retAddr 0, .retAddr 0]) ht rfl rfl ?_
    refine zv_c1 ht rfl rfl (zv_c1 ht rfl rfl ?_)
    refine zv_cl ht rfl rfl rfl rfl (by omega) (Nat.le_of_ble_eq_true rfl) (m_wantX (S := S10) (w := 41) hF10 (by omega) x10 (by omega) ?_)
    show zEv d 151 156 [.ref 1592, .int 7, .int (Int32.ofNat p), .int (Int32.ofNat deep), .int u10, .retAddr 0, .retAddr 0, .retAddr 0, .retAddr 0] [] S10 post
    refine zv_c1 ht rfl rfl ?_
    have C24 : ∀ (pst23 : Outcome × zS → Prop), (pst23 (.returned (some (.int 0)), S10)) → zCall (d - 1) 125 [.ref 1592] S10 pst23 := by
      intro pst23 k26
      have ht25 : ztab 125 = ztb125 := rfl
      show zEv (d - 1) 125 0 [.ref 1592] [] S10 pst23
      refine zv_c1 ht25 rfl rfl ?_
      refine zv_e1 (x := 1) ht25 rfl rfl x10.1 ?_
      refine zv_br ht25 rfl rfl rfl (fun _ => ?_) (fun h => absurd (by decide) h)
      refine zv_c1 ht25 rfl rfl ?_
      exact zv_rc ht25 rfl rfl rfl rfl (by decide) k26
    refine zv_cl ht rfl rfl rfl rfl (by omega) (Nat.le_of_ble_eq_true rfl) (C24 _ ?_)
    show zEv d 151 160 [.ref 1592, .int 7, .int (Int32.ofNat p), .int (Int32.ofNat deep), .int u10, .retAddr 0, .retAddr 0, .retAddr 0, .retAddr 0] [.int 0] S10 post
    refine zv_br ht rfl rfl rfl (fun _ => ?_) (fun h => absurd (by decide) h)
    refine zv_c1 ht rfl rfl ?_
    exact zv_rt ht rfl rfl rfl rfl (h3 S10 u10 hF10 e10 k10 x10)

theorem ia_8 {d : Nat} {S : zS} (hF : zFin true S) (hd : 7 ≤ d) {tp : Nat → Nat} {sz at0 rd nx wt B : Nat} (p deep : Nat)  (hP : mP tp sz S at0 rd nx wt) (hp : p ≤ 300) (hdp : deep < 2000) (hB : nx + 3 ≤ B) (hB3 : B ≤ 3000) {post : Outcome × zS → Prop} (h1 : ∀ S9 : zS, ∀ v9 : Nat, (zFin true S9) → (pLet tp sz 48 55 at0 = .ok (v9, at0 + 1)) → (v9 ≤ 55 - 48) → (mFr B nx wt S S9) → (mP tp sz S9 (at0 + 1) rd nx wt) → ∀ S11 : zS, (zFin true S11) → (pWant tp sz 41 (at0 + 1) = .ok ((at0 + 1) + 1)) → (mFr B nx wt S9 S11) → (mP tp sz S11 ((at0 + 1) + 1) rd nx wt) → ∀ S17 : zS, (zFin true S17) → (mFr B nx wt S11 S17) → (mP tp sz S17 ((at0 + 1) + 1) rd (nx + 1) wt) → (mOp S17 nx 8 v9 p []) → ∀ S18 : zS, (zFin true S18) → (mFr B nx wt S17 S18) → (mP tp sz S18 ((at0 + 1) + 1) rd (nx + 1) wt) → (mT true S18 nx (nx + 1) (tN 8 v9 [] p []) nx) → post (.returned (some (.int (Int32.ofNat nx))), S18)) (h2 : ∀ S9 : zS, ∀ v9 : Nat, (zFin true S9) → (pLet tp sz 48 55 at0 = .ok (v9, at0 + 1)) → (v9 ≤ 55 - 48) → (mFr B nx wt S S9) → (mP tp sz S9 (at0 + 1) rd nx wt) → ∀ S12 : zS, (zFin true S12) → (pWant tp sz 41 (at0 + 1) = .error (1, (at0 + 1))) → (mFr B nx wt S9 S12) → (mX S12 1 (at0 + 1)) → post (.returned (some (.int (-1))), S12)) (h3 : ∀ S10 : zS, ∀ u10 : Int32, (zFin true S10) → (pLet tp sz 48 55 at0 = .error (1, at0)) → (mFr B nx wt S S10) → (mX S10 1 at0) → post (.returned (some (.int (-1))), S10)) : zCall d 151 [.ref 1592, .int 8, .int (Int32.ofNat p), .int (Int32.ofNat deep)] S post := by
  have ht : ztab 151 = ztb151 := rfl
  show zEv d 151 0 [.ref 1592, .int 8, .int (Int32.ofNat p), .int (Int32.ofNat deep), .retAddr 0, .retAddr 0, .retAddr 0, .retAddr 0, .retAddr 0] [] S post
  refine zv_c1 ht rfl rfl ?_
  have C2 : ∀ (pst1 : Outcome × zS → Prop), (pst1 (.returned (some (.int 1)), S)) → zCall (d - 1) 125 [.ref 1592] S pst1 := by
    intro pst1 k4
    have ht3 : ztab 125 = ztb125 := rfl
    show zEv (d - 1) 125 0 [.ref 1592] [] S pst1
    refine zv_c1 ht3 rfl rfl ?_
    refine zv_e1 (x := 0) ht3 rfl rfl hP.1.2.2.1 ?_
    refine zv_br ht3 rfl rfl rfl (fun h => absurd h (by decide)) (fun _ => ?_)
    refine zv_c1 ht3 rfl rfl (zv_c1 ht3 rfl rfl ?_)
    exact zv_rc ht3 rfl rfl rfl rfl (by decide) k4
  refine zv_cl ht rfl rfl rfl rfl (by omega) (Nat.le_of_ble_eq_true rfl) (C2 _ ?_)
  show zEv d 151 4 [.ref 1592, .int 8, .int (Int32.ofNat p), .int (Int32.ofNat deep), .retAddr 0, .retAddr 0, .retAddr 0, .retAddr 0, .retAddr 0] [.int 1] S post
  refine zv_br ht rfl rfl rfl (fun _ => ?_) (fun h => absurd (by decide) h)
  refine zv_c1 ht rfl rfl (zv_c1 ht rfl rfl ?_)
  refine zv_br ht rfl rfl rfl (fun h => absurd h (by decide)) (fun _ => ?_)
  refine zv_c1 ht rfl rfl (zv_c1 ht rfl rfl ?_)
  refine zv_br ht rfl rfl rfl (fun h => absurd h (by decide)) (fun _ => ?_)
  refine zv_c1 ht rfl rfl (zv_c1 ht rfl rfl ?_)
  refine zv_br ht rfl rfl rfl (fun h => absurd h (by decide)) (fun _ => ?_)
  refine zv_c1 ht rfl rfl (zv_c1 ht rfl rfl ?_)
  refine zv_br ht rfl rfl rfl (fun _ => ?_) (fun h => absurd (by decide) h)
  refine zv_c1 ht rfl rfl (zv_c1 ht rfl rfl ?_)
  refine zv_br ht rfl rfl rfl (fun h => absurd h (by decide)) (fun _ => ?_)
  refine zv_c1 ht rfl rfl (zv_c1 ht rfl rfl ?_)
  refine zv_br ht rfl rfl rfl (fun h => absurd h (by decide)) (fun _ => ?_)
  refine zv_c1 ht rfl rfl (zv_c1 ht rfl rfl (zv_c1 ht rfl rfl ?_))
  have C6 : ∀ (pst5 : Outcome × zS → Prop), (pst5 (.returned (some (.int 1)), S)) → zCall (d - 1) 102 [.int 8, .int 6, .int 9] S pst5 := by
    intro pst5 k8
    have ht7 : ztab 102 = ztb102 := rfl
    show zEv (d - 1) 102 0 [.int 8, .int 6, .int 9] [] S pst5
    refine zv_c1 ht7 rfl rfl (zv_c1 ht7 rfl rfl ?_)
    refine zv_br ht7 rfl rfl rfl (fun h => absurd h (by decide)) (fun _ => ?_)
    refine zv_c1 ht7 rfl rfl (zv_c1 ht7 rfl rfl ?_)
    refine zv_br ht7 rfl rfl rfl (fun h => absurd h (by decide)) (fun _ => ?_)
    refine zv_c1 ht7 rfl rfl (zv_c1 ht7 rfl rfl ?_)
    exact zv_rc ht7 rfl rfl rfl rfl (by decide) k8
  refine zv_cl ht rfl rfl rfl rfl (by omega) (Nat.le_of_ble_eq_true rfl) (C6 _ ?_)
  show zEv d 151 124 [.ref 1592, .int 8, .int (Int32.ofNat p), .int (Int32.ofNat deep), .retAddr 0, .retAddr 0, .retAddr 0, .retAddr 0, .retAddr 0] [.int 1] S post
  refine zv_br ht rfl rfl rfl (fun h => absurd h (by decide)) (fun _ => ?_)
  refine zv_c1 ht rfl rfl (zv_c1 ht rfl rfl ?_)
  refine zv_br ht rfl rfl rfl (fun _ => ?_) (fun h => absurd (by decide) h)
  refine zv_c1 ht rfl rfl (zv_c1 ht rfl rfl (zv_c1 ht rfl rfl ?_))
  refine zv_cl ht rfl rfl rfl rfl (by omega) (Nat.le_of_ble_eq_true rfl) (m_letter (S := S) (tp := tp) (sz := sz) (B := B) (lo := 48) (hi := 55) hF (by omega) hP (by omega) (by omega) (by omega) (fun S9 v9 hF9 e9 b9 k9 p9 => ?_) (fun S10 u10 hF10 e10 k10 x10 => ?_))
  · show zEv d 151 148 [.ref 1592, .int 8, .int (Int32.ofNat p), .int (Int32.ofNat deep), .retAddr 0, .retAddr 0, .retAddr 0, .retAddr 0, .retAddr 0] [.int (Int32.ofNat v9)] S9 post
    refine zv_c2 (L' := [.ref 1592, .int 8, .int (Int32.ofNat p), .int (Int32.ofNat deep), .int (Int32.ofNat v9), .retAddr 0, .retAddr 0, .retAddr 0, .retAddr 0]) ht rfl rfl ?_
    refine zv_c1 ht rfl rfl (zv_c1 ht rfl rfl ?_)
    refine zv_cl ht rfl rfl rfl rfl (by omega) (Nat.le_of_ble_eq_true rfl) (m_want (S := S9) (tp := tp) (sz := sz) (B := B) (w := 41) hF9 (by omega) p9 (by omega) (by omega) (fun S11 hF11 e11 k11 p11 => ?_) (fun S12 hF12 e12 k12 x12 => ?_))
    · show zEv d 151 156 [.ref 1592, .int 8, .int (Int32.ofNat p), .int (Int32.ofNat deep), .int (Int32.ofNat v9), .retAddr 0, .retAddr 0, .retAddr 0, .retAddr 0] [] S11 post
      refine zv_c1 ht rfl rfl ?_
      have C14 : ∀ (pst13 : Outcome × zS → Prop), (pst13 (.returned (some (.int 1)), S11)) → zCall (d - 1) 125 [.ref 1592] S11 pst13 := by
        intro pst13 k16
        have ht15 : ztab 125 = ztb125 := rfl
        show zEv (d - 1) 125 0 [.ref 1592] [] S11 pst13
        refine zv_c1 ht15 rfl rfl ?_
        refine zv_e1 (x := 0) ht15 rfl rfl p11.1.2.2.1 ?_
        refine zv_br ht15 rfl rfl rfl (fun h => absurd h (by decide)) (fun _ => ?_)
        refine zv_c1 ht15 rfl rfl (zv_c1 ht15 rfl rfl ?_)
        exact zv_rc ht15 rfl rfl rfl rfl (by decide) k16
      refine zv_cl ht rfl rfl rfl rfl (by omega) (Nat.le_of_ble_eq_true rfl) (C14 _ ?_)
      show zEv d 151 160 [.ref 1592, .int 8, .int (Int32.ofNat p), .int (Int32.ofNat deep), .int (Int32.ofNat v9), .retAddr 0, .retAddr 0, .retAddr 0, .retAddr 0] [.int 1] S11 post
      refine zv_br ht rfl rfl rfl (fun h => absurd h (by decide)) (fun _ => ?_)
      refine zv_c1 ht rfl rfl (zv_c1 ht rfl rfl (zv_c1 ht rfl rfl (zv_c1 ht rfl rfl (zv_c1 ht rfl rfl ?_))))
      refine zv_cl ht rfl rfl rfl rfl (by omega) (Nat.le_of_ble_eq_true rfl) (m_node (S := S11) (tp := tp) (sz := sz) (B := B) (k := 8) (v := v9) (p := p) hF11 p11 (by omega) (by omega) (by omega) (by omega) (by omega) (fun S17 hF17 k17 p17 o17 => ?_))
      show zEv d 151 172 [.ref 1592, .int 8, .int (Int32.ofNat p), .int (Int32.ofNat deep), .int (Int32.ofNat v9), .retAddr 0, .retAddr 0, .retAddr 0, .retAddr 0] [.int (Int32.ofNat nx), .ref 1592] S17 post
      refine zv_cl ht rfl rfl rfl rfl (by omega) (Nat.le_of_ble_eq_true rfl) (m_leaf (S := S17) (tp := tp) (sz := sz) (B := B) (n := nx) (k := 8) (v := v9) (p := p) hF17 (by omega) p17 (by omega) (by omega) o17 (by omega) (by omega) (by omega) (fun S18 hF18 k18 p18 t18 => ?_))
      show zEv d 151 175 [.ref 1592, .int 8, .int (Int32.ofNat p), .int (Int32.ofNat deep), .int (Int32.ofNat v9), .retAddr 0, .retAddr 0, .retAddr 0, .retAddr 0] [.int (Int32.ofNat nx)] S18 post
      refine zv_c1 ht rfl rfl ?_
      exact zv_rt ht rfl rfl rfl rfl (h1 S9 v9 hF9 e9 b9 k9 p9 S11 hF11 e11 k11 p11 S17 hF17 k17 p17 o17 S18 hF18 k18 p18 t18)
    · show zEv d 151 156 [.ref 1592, .int 8, .int (Int32.ofNat p), .int (Int32.ofNat deep), .int (Int32.ofNat v9), .retAddr 0, .retAddr 0, .retAddr 0, .retAddr 0] [] S12 post
      refine zv_c1 ht rfl rfl ?_
      have C20 : ∀ (pst19 : Outcome × zS → Prop), (pst19 (.returned (some (.int 0)), S12)) → zCall (d - 1) 125 [.ref 1592] S12 pst19 := by
        intro pst19 k22
        have ht21 : ztab 125 = ztb125 := rfl
        show zEv (d - 1) 125 0 [.ref 1592] [] S12 pst19
        refine zv_c1 ht21 rfl rfl ?_
        refine zv_e1 (x := 1) ht21 rfl rfl x12.1 ?_
        refine zv_br ht21 rfl rfl rfl (fun _ => ?_) (fun h => absurd (by decide) h)
        refine zv_c1 ht21 rfl rfl ?_
        exact zv_rc ht21 rfl rfl rfl rfl (by decide) k22
      refine zv_cl ht rfl rfl rfl rfl (by omega) (Nat.le_of_ble_eq_true rfl) (C20 _ ?_)
      show zEv d 151 160 [.ref 1592, .int 8, .int (Int32.ofNat p), .int (Int32.ofNat deep), .int (Int32.ofNat v9), .retAddr 0, .retAddr 0, .retAddr 0, .retAddr 0] [.int 0] S12 post
      refine zv_br ht rfl rfl rfl (fun _ => ?_) (fun h => absurd (by decide) h)
      refine zv_c1 ht rfl rfl ?_
      exact zv_rt ht rfl rfl rfl rfl (h2 S9 v9 hF9 e9 b9 k9 p9 S12 hF12 e12 k12 x12)
  · show zEv d 151 148 [.ref 1592, .int 8, .int (Int32.ofNat p), .int (Int32.ofNat deep), .retAddr 0, .retAddr 0, .retAddr 0, .retAddr 0, .retAddr 0] [.int u10] S10 post
    refine zv_c2 (L' := [.ref 1592, .int 8, .int (Int32.ofNat p), .int (Int32.ofNat deep), .int u10, .retAddr 0, .retAddr 0, .retAddr 0, .retAddr 0]) ht rfl rfl ?_
    refine zv_c1 ht rfl rfl (zv_c1 ht rfl rfl ?_)
    refine zv_cl ht rfl rfl rfl rfl (by omega) (Nat.le_of_ble_eq_true rfl) (m_wantX (S := S10) (w := 41) hF10 (by omega) x10 (by omega) ?_)
    show zEv d 151 156 [.ref 1592, .int 8, .int (Int32.ofNat p), .int (Int32.ofNat deep), .int u10, .retAddr 0, .retAddr 0, .retAddr 0, .retAddr 0] [] S10 post
    refine zv_c1 ht rfl rfl ?_
    have C24 : ∀ (pst23 : Outcome × zS → Prop), (pst23 (.returned (some (.int 0)), S10)) → zCall (d - 1) 125 [.ref 1592] S10 pst23 := by
      intro pst23 k26
      have ht25 : ztab 125 = ztb125 := rfl
      show zEv (d - 1) 125 0 [.ref 1592] [] S10 pst23
      refine zv_c1 ht25 rfl rfl ?_
      refine zv_e1 (x := 1) ht25 rfl rfl x10.1 ?_
      refine zv_br ht25 rfl rfl rfl (fun _ => ?_) (fun h => absurd (by decide) h)
      refine zv_c1 ht25 rfl rfl ?_
      exact zv_rc ht25 rfl rfl rfl rfl (by decide) k26
    refine zv_cl ht rfl rfl rfl rfl (by omega) (Nat.le_of_ble_eq_true rfl) (C24 _ ?_)
    show zEv d 151 160 [.ref 1592, .int 8, .int (Int32.ofNat p), .int (Int32.ofNat deep), .int u10, .retAddr 0, .retAddr 0, .retAddr 0, .retAddr 0] [.int 0] S10 post
    refine zv_br ht rfl rfl rfl (fun _ => ?_) (fun h => absurd (by decide) h)
    refine zv_c1 ht rfl rfl ?_
    exact zv_rt ht rfl rfl rfl rfl (h3 S10 u10 hF10 e10 k10 x10)

theorem ia_9 {d : Nat} {S : zS} (hF : zFin true S) (hd : 7 ≤ d) {tp : Nat → Nat} {sz at0 rd nx wt B : Nat} (p deep : Nat)  (hP : mP tp sz S at0 rd nx wt) (hp : p ≤ 300) (hdp : deep < 2000) (hB : nx + 3 ≤ B) (hB3 : B ≤ 3000) {post : Outcome × zS → Prop} (h1 : ∀ S9 : zS, ∀ v9 : Nat, (zFin true S9) → (pLet tp sz 48 55 at0 = .ok (v9, at0 + 1)) → (v9 ≤ 55 - 48) → (mFr B nx wt S S9) → (mP tp sz S9 (at0 + 1) rd nx wt) → ∀ S11 : zS, (zFin true S11) → (pWant tp sz 41 (at0 + 1) = .ok ((at0 + 1) + 1)) → (mFr B nx wt S9 S11) → (mP tp sz S11 ((at0 + 1) + 1) rd nx wt) → ∀ S17 : zS, (zFin true S17) → (mFr B nx wt S11 S17) → (mP tp sz S17 ((at0 + 1) + 1) rd (nx + 1) wt) → (mOp S17 nx 9 v9 p []) → ∀ S18 : zS, (zFin true S18) → (mFr B nx wt S17 S18) → (mP tp sz S18 ((at0 + 1) + 1) rd (nx + 1) wt) → (mT true S18 nx (nx + 1) (tN 9 v9 [] p []) nx) → post (.returned (some (.int (Int32.ofNat nx))), S18)) (h2 : ∀ S9 : zS, ∀ v9 : Nat, (zFin true S9) → (pLet tp sz 48 55 at0 = .ok (v9, at0 + 1)) → (v9 ≤ 55 - 48) → (mFr B nx wt S S9) → (mP tp sz S9 (at0 + 1) rd nx wt) → ∀ S12 : zS, (zFin true S12) → (pWant tp sz 41 (at0 + 1) = .error (1, (at0 + 1))) → (mFr B nx wt S9 S12) → (mX S12 1 (at0 + 1)) → post (.returned (some (.int (-1))), S12)) (h3 : ∀ S10 : zS, ∀ u10 : Int32, (zFin true S10) → (pLet tp sz 48 55 at0 = .error (1, at0)) → (mFr B nx wt S S10) → (mX S10 1 at0) → post (.returned (some (.int (-1))), S10)) : zCall d 151 [.ref 1592, .int 9, .int (Int32.ofNat p), .int (Int32.ofNat deep)] S post := by
  have ht : ztab 151 = ztb151 := rfl
  show zEv d 151 0 [.ref 1592, .int 9, .int (Int32.ofNat p), .int (Int32.ofNat deep), .retAddr 0, .retAddr 0, .retAddr 0, .retAddr 0, .retAddr 0] [] S post
  refine zv_c1 ht rfl rfl ?_
  have C2 : ∀ (pst1 : Outcome × zS → Prop), (pst1 (.returned (some (.int 1)), S)) → zCall (d - 1) 125 [.ref 1592] S pst1 := by
    intro pst1 k4
    have ht3 : ztab 125 = ztb125 := rfl
    show zEv (d - 1) 125 0 [.ref 1592] [] S pst1
    refine zv_c1 ht3 rfl rfl ?_
    refine zv_e1 (x := 0) ht3 rfl rfl hP.1.2.2.1 ?_
    refine zv_br ht3 rfl rfl rfl (fun h => absurd h (by decide)) (fun _ => ?_)
    refine zv_c1 ht3 rfl rfl (zv_c1 ht3 rfl rfl ?_)
    exact zv_rc ht3 rfl rfl rfl rfl (by decide) k4
  refine zv_cl ht rfl rfl rfl rfl (by omega) (Nat.le_of_ble_eq_true rfl) (C2 _ ?_)
  show zEv d 151 4 [.ref 1592, .int 9, .int (Int32.ofNat p), .int (Int32.ofNat deep), .retAddr 0, .retAddr 0, .retAddr 0, .retAddr 0, .retAddr 0] [.int 1] S post
  refine zv_br ht rfl rfl rfl (fun _ => ?_) (fun h => absurd (by decide) h)
  refine zv_c1 ht rfl rfl (zv_c1 ht rfl rfl ?_)
  refine zv_br ht rfl rfl rfl (fun h => absurd h (by decide)) (fun _ => ?_)
  refine zv_c1 ht rfl rfl (zv_c1 ht rfl rfl ?_)
  refine zv_br ht rfl rfl rfl (fun h => absurd h (by decide)) (fun _ => ?_)
  refine zv_c1 ht rfl rfl (zv_c1 ht rfl rfl ?_)
  refine zv_br ht rfl rfl rfl (fun h => absurd h (by decide)) (fun _ => ?_)
  refine zv_c1 ht rfl rfl (zv_c1 ht rfl rfl ?_)
  refine zv_br ht rfl rfl rfl (fun _ => ?_) (fun h => absurd (by decide) h)
  refine zv_c1 ht rfl rfl (zv_c1 ht rfl rfl ?_)
  refine zv_br ht rfl rfl rfl (fun h => absurd h (by decide)) (fun _ => ?_)
  refine zv_c1 ht rfl rfl (zv_c1 ht rfl rfl ?_)
  refine zv_br ht rfl rfl rfl (fun h => absurd h (by decide)) (fun _ => ?_)
  refine zv_c1 ht rfl rfl (zv_c1 ht rfl rfl (zv_c1 ht rfl rfl ?_))
  have C6 : ∀ (pst5 : Outcome × zS → Prop), (pst5 (.returned (some (.int 1)), S)) → zCall (d - 1) 102 [.int 9, .int 6, .int 9] S pst5 := by
    intro pst5 k8
    have ht7 : ztab 102 = ztb102 := rfl
    show zEv (d - 1) 102 0 [.int 9, .int 6, .int 9] [] S pst5
    refine zv_c1 ht7 rfl rfl (zv_c1 ht7 rfl rfl ?_)
    refine zv_br ht7 rfl rfl rfl (fun h => absurd h (by decide)) (fun _ => ?_)
    refine zv_c1 ht7 rfl rfl (zv_c1 ht7 rfl rfl ?_)
    refine zv_br ht7 rfl rfl rfl (fun h => absurd h (by decide)) (fun _ => ?_)
    refine zv_c1 ht7 rfl rfl (zv_c1 ht7 rfl rfl ?_)
    exact zv_rc ht7 rfl rfl rfl rfl (by decide) k8
  refine zv_cl ht rfl rfl rfl rfl (by omega) (Nat.le_of_ble_eq_true rfl) (C6 _ ?_)
  show zEv d 151 124 [.ref 1592, .int 9, .int (Int32.ofNat p), .int (Int32.ofNat deep), .retAddr 0, .retAddr 0, .retAddr 0, .retAddr 0, .retAddr 0] [.int 1] S post
  refine zv_br ht rfl rfl rfl (fun h => absurd h (by decide)) (fun _ => ?_)
  refine zv_c1 ht rfl rfl (zv_c1 ht rfl rfl ?_)
  refine zv_br ht rfl rfl rfl (fun _ => ?_) (fun h => absurd (by decide) h)
  refine zv_c1 ht rfl rfl (zv_c1 ht rfl rfl (zv_c1 ht rfl rfl ?_))
  refine zv_cl ht rfl rfl rfl rfl (by omega) (Nat.le_of_ble_eq_true rfl) (m_letter (S := S) (tp := tp) (sz := sz) (B := B) (lo := 48) (hi := 55) hF (by omega) hP (by omega) (by omega) (by omega) (fun S9 v9 hF9 e9 b9 k9 p9 => ?_) (fun S10 u10 hF10 e10 k10 x10 => ?_))
  · show zEv d 151 148 [.ref 1592, .int 9, .int (Int32.ofNat p), .int (Int32.ofNat deep), .retAddr 0, .retAddr 0, .retAddr 0, .retAddr 0, .retAddr 0] [.int (Int32.ofNat v9)] S9 post
    refine zv_c2 (L' := [.ref 1592, .int 9, .int (Int32.ofNat p), .int (Int32.ofNat deep), .int (Int32.ofNat v9), .retAddr 0, .retAddr 0, .retAddr 0, .retAddr 0]) ht rfl rfl ?_
    refine zv_c1 ht rfl rfl (zv_c1 ht rfl rfl ?_)
    refine zv_cl ht rfl rfl rfl rfl (by omega) (Nat.le_of_ble_eq_true rfl) (m_want (S := S9) (tp := tp) (sz := sz) (B := B) (w := 41) hF9 (by omega) p9 (by omega) (by omega) (fun S11 hF11 e11 k11 p11 => ?_) (fun S12 hF12 e12 k12 x12 => ?_))
    · show zEv d 151 156 [.ref 1592, .int 9, .int (Int32.ofNat p), .int (Int32.ofNat deep), .int (Int32.ofNat v9), .retAddr 0, .retAddr 0, .retAddr 0, .retAddr 0] [] S11 post
      refine zv_c1 ht rfl rfl ?_
      have C14 : ∀ (pst13 : Outcome × zS → Prop), (pst13 (.returned (some (.int 1)), S11)) → zCall (d - 1) 125 [.ref 1592] S11 pst13 := by
        intro pst13 k16
        have ht15 : ztab 125 = ztb125 := rfl
        show zEv (d - 1) 125 0 [.ref 1592] [] S11 pst13
        refine zv_c1 ht15 rfl rfl ?_
        refine zv_e1 (x := 0) ht15 rfl rfl p11.1.2.2.1 ?_
        refine zv_br ht15 rfl rfl rfl (fun h => absurd h (by decide)) (fun _ => ?_)
        refine zv_c1 ht15 rfl rfl (zv_c1 ht15 rfl rfl ?_)
        exact zv_rc ht15 rfl rfl rfl rfl (by decide) k16
      refine zv_cl ht rfl rfl rfl rfl (by omega) (Nat.le_of_ble_eq_true rfl) (C14 _ ?_)
      show zEv d 151 160 [.ref 1592, .int 9, .int (Int32.ofNat p), .int (Int32.ofNat deep), .int (Int32.ofNat v9), .retAddr 0, .retAddr 0, .retAddr 0, .retAddr 0] [.int 1] S11 post
      refine zv_br ht rfl rfl rfl (fun h => absurd h (by decide)) (fun _ => ?_)
      refine zv_c1 ht rfl rfl (zv_c1 ht rfl rfl (zv_c1 ht rfl rfl (zv_c1 ht rfl rfl (zv_c1 ht rfl rfl ?_))))
      refine zv_cl ht rfl rfl rfl rfl (by omega) (Nat.le_of_ble_eq_true rfl) (m_node (S := S11) (tp := tp) (sz := sz) (B := B) (k := 9) (v := v9) (p := p) hF11 p11 (by omega) (by omega) (by omega) (by omega) (by omega) (fun S17 hF17 k17 p17 o17 => ?_))
      show zEv d 151 172 [.ref 1592, .int 9, .int (Int32.ofNat p), .int (Int32.ofNat deep), .int (Int32.ofNat v9), .retAddr 0, .retAddr 0, .retAddr 0, .retAddr 0] [.int (Int32.ofNat nx), .ref 1592] S17 post
      refine zv_cl ht rfl rfl rfl rfl (by omega) (Nat.le_of_ble_eq_true rfl) (m_leaf (S := S17) (tp := tp) (sz := sz) (B := B) (n := nx) (k := 9) (v := v9) (p := p) hF17 (by omega) p17 (by omega) (by omega) o17 (by omega) (by omega) (by omega) (fun S18 hF18 k18 p18 t18 => ?_))
      show zEv d 151 175 [.ref 1592, .int 9, .int (Int32.ofNat p), .int (Int32.ofNat deep), .int (Int32.ofNat v9), .retAddr 0, .retAddr 0, .retAddr 0, .retAddr 0] [.int (Int32.ofNat nx)] S18 post
      refine zv_c1 ht rfl rfl ?_
      exact zv_rt ht rfl rfl rfl rfl (h1 S9 v9 hF9 e9 b9 k9 p9 S11 hF11 e11 k11 p11 S17 hF17 k17 p17 o17 S18 hF18 k18 p18 t18)
    · show zEv d 151 156 [.ref 1592, .int 9, .int (Int32.ofNat p), .int (Int32.ofNat deep), .int (Int32.ofNat v9), .retAddr 0, .retAddr 0, .retAddr 0, .retAddr 0] [] S12 post
      refine zv_c1 ht rfl rfl ?_
      have C20 : ∀ (pst19 : Outcome × zS → Prop), (pst19 (.returned (some (.int 0)), S12)) → zCall (d - 1) 125 [.ref 1592] S12 pst19 := by
        intro pst19 k22
        have ht21 : ztab 125 = ztb125 := rfl
        show zEv (d - 1) 125 0 [.ref 1592] [] S12 pst19
        refine zv_c1 ht21 rfl rfl ?_
        refine zv_e1 (x := 1) ht21 rfl rfl x12.1 ?_
        refine zv_br ht21 rfl rfl rfl (fun _ => ?_) (fun h => absurd (by decide) h)
        refine zv_c1 ht21 rfl rfl ?_
        exact zv_rc ht21 rfl rfl rfl rfl (by decide) k22
      refine zv_cl ht rfl rfl rfl rfl (by omega) (Nat.le_of_ble_eq_true rfl) (C20 _ ?_)
      show zEv d 151 160 [.ref 1592, .int 9, .int (Int32.ofNat p), .int (Int32.ofNat deep), .int (Int32.ofNat v9), .retAddr 0, .retAddr 0, .retAddr 0, .retAddr 0] [.int 0] S12 post
      refine zv_br ht rfl rfl rfl (fun _ => ?_) (fun h => absurd (by decide) h)
      refine zv_c1 ht rfl rfl ?_
      exact zv_rt ht rfl rfl rfl rfl (h2 S9 v9 hF9 e9 b9 k9 p9 S12 hF12 e12 k12 x12)
  · show zEv d 151 148 [.ref 1592, .int 9, .int (Int32.ofNat p), .int (Int32.ofNat deep), .retAddr 0, .retAddr 0, .retAddr 0, .retAddr 0, .retAddr 0] [.int u10] S10 post
    refine zv_c2 (L' := [.ref 1592, .int 9, .int (Int32.ofNat p), .int (Int32.ofNat deep), .int u10, .retAddr 0, .retAddr 0, .retAddr 0, .retAddr 0]) ht rfl rfl ?_
    refine zv_c1 ht rfl rfl (zv_c1 ht rfl rfl ?_)
    refine zv_cl ht rfl rfl rfl rfl (by omega) (Nat.le_of_ble_eq_true rfl) (m_wantX (S := S10) (w := 41) hF10 (by omega) x10 (by omega) ?_)
    show zEv d 151 156 [.ref 1592, .int 9, .int (Int32.ofNat p), .int (Int32.ofNat deep), .int u10, .retAddr 0, .retAddr 0, .retAddr 0, .retAddr 0] [] S10 post
    refine zv_c1 ht rfl rfl ?_
    have C24 : ∀ (pst23 : Outcome × zS → Prop), (pst23 (.returned (some (.int 0)), S10)) → zCall (d - 1) 125 [.ref 1592] S10 pst23 := by
      intro pst23 k26
      have ht25 : ztab 125 = ztb125 := rfl
      show zEv (d - 1) 125 0 [.ref 1592] [] S10 pst23
      refine zv_c1 ht25 rfl rfl ?_
      refine zv_e1 (x := 1) ht25 rfl rfl x10.1 ?_
      refine zv_br ht25 rfl rfl rfl (fun _ => ?_) (fun h => absurd (by decide) h)
      refine zv_c1 ht25 rfl rfl ?_
      exact zv_rc ht25 rfl rfl rfl rfl (by decide) k26
    refine zv_cl ht rfl rfl rfl rfl (by omega) (Nat.le_of_ble_eq_true rfl) (C24 _ ?_)
    show zEv d 151 160 [.ref 1592, .int 9, .int (Int32.ofNat p), .int (Int32.ofNat deep), .int u10, .retAddr 0, .retAddr 0, .retAddr 0, .retAddr 0] [.int 0] S10 post
    refine zv_br ht rfl rfl rfl (fun _ => ?_) (fun h => absurd (by decide) h)
    refine zv_c1 ht rfl rfl ?_
    exact zv_rt ht rfl rfl rfl rfl (h3 S10 u10 hF10 e10 k10 x10)

section Q9b
variable {d : Nat} {post : Outcome × zS → Prop} {tp : Nat → Nat} {sz : Nat}
theorem pb_ok {α β : Type} {x : pE α} {a : α} {f : α → pE β} (h : x = .ok a) : (x >>= f) = f a := by subst h; rfl
theorem pb_er {α β : Type} {x : pE α} {e : Nat × Nat} {f : α → pE β} (h : x = .error e) : (x >>= f) = .error e := by subst h; rfl
theorem mEnd.err {B nx wt : Nat} {S S' : zS} {r : pE (zNd × Nat × Nat)} {cap : Nat → Nat} {q : Int32} {k p : Nat} (h1 : zFin true S') (h2 : mFr B nx wt S S') (h3 : mX S' k p) (h4 : r = .error (k, p)) : mEnd tp sz B nx wt S r cap q S' := by
  subst h4; exact ⟨h1, h2, h3⟩
theorem mEnd.good {B nx wt i nx1 at1 rd1 : Nat} {x : zNd} {S S' : zS} {r : pE (zNd × Nat × Nat)} {cap : Nat → Nat} (h1 : zFin true S') (h2 : mFr B nx wt S S') (h3 : mT true S' nx nx1 x i) (h4 : mP tp sz S' at1 rd1 nx1 wt) (h5 : nx1 ≤ cap at1) (h6 : r = .ok (x, at1, rd1)) : mEnd tp sz B nx wt S r cap (Int32.ofNat i) S' := by
  subst h6; exact ⟨h1, h2, i, nx1, rfl, h3, h4, h5⟩
theorem mEnd.pre {B nx wt : Nat} {S S0 S' : zS} {r r' : pE (zNd × Nat × Nat)} {cap cap' : Nat → Nat} {q : Int32} (h : mEnd tp sz B nx wt S r cap q S') (h1 : mFr B nx wt S0 S) (h2 : r' = r) (h3 : ∀ x a b, r = .ok (x, a, b) → cap a ≤ cap' a) : mEnd tp sz B nx wt S0 r' cap' q S' := by
  subst h2
  obtain ⟨a, b, c⟩ := h
  refine ⟨a, h1.tr b, ?_⟩
  match r', h3, c with
  | .error (k, p), _, c => exact c
  | .ok (x, a1, b1), h3, c =>
    obtain ⟨i, nx1, g1, g2, g3, g4⟩ := c
    exact ⟨i, nx1, g1, g2, g3, Nat.le_trans g4 (h3 x a1 b1 rfl)⟩
theorem m_insideL {S : zS} (hF : zFin true S) (hd : 10 ≤ d) {at0 rd nx wt B k p deep : Nat} {rec : Nat → Nat → Nat → pE (zNd × Nat × Nat)} (hP : mP tp sz S at0 rd nx wt) (hp : p ≤ 300) (hdp : deep < 2000) (hB : nx + 3 ≤ B) (hB3 : B ≤ 3000) (hk : (2 ≤ k ∧ k < 10) ∨ k = 100 ∨ k = 101)
    (h : ∀ S' q, mEnd tp sz B nx wt S (pIn tp sz rec k p deep at0 rd) (fun at1 => nx + 2 * (at1 - at0)) q S' → post (.returned (some (.int q)), S')) : zCall d 151 [.ref 1592, .int (Int32.ofNat k), .int (Int32.ofNat p), .int (Int32.ofNat deep)] S post := by
  by_cases c2 : k = 2
  · subst c2
    have eU : pIn tp sz rec 2 p deep at0 rd = (do
      let q ← pLet tp sz 65 80 at0
      let at1 ← pWant tp sz 41 q.2
      let x ← pJ (tN 2 q.1 [] p [])
      let y ← (if (2 : Nat) < 100 then .ok x else pWrap 21 x p)
      .ok (y, at1, rd)) := rfl
    refine ia_2 (B := B) hF (by omega) p deep hP hp hdp hB hB3 ?_ ?_ ?_
    · intro S5 v5 f5 e5 b5 k5 p5 S7 f7 e7 k7 p7 S13 f13 k13 p13 o13 S14 f14 k14 p14 t14
      refine h S14 _ (mEnd.good f14 (k5.tr (k7.tr (k13.tr k14))) t14 p14 (by show nx + 1 ≤ nx + 2 * (at0 + 1 + 1 - at0); omega) ?_)
      refine eU.trans ((pb_ok e5).trans ((pb_ok e7).trans ((pb_ok (pJ_leaf (by omega))).trans ?_)))
      rfl
    · intro S5 v5 f5 e5 b5 k5 p5 S8 f8 e8 k8 x8
      refine h S8 _ (mEnd.err f8 (k5.tr k8) x8 ?_)
      exact eU.trans ((pb_ok e5).trans (pb_er e8))
    · intro S6 u6 f6 e6 k6 x6
      refine h S6 _ (mEnd.err f6 k6 x6 ?_)
      exact eU.trans (pb_er e6)
  by_cases c3 : k = 3
  · subst c3
    have eU : pIn tp sz rec 3 p deep at0 rd = (do
      let q ← pLet tp sz 65 80 at0
      let at1 ← pWant tp sz 41 q.2
      let x ← pJ (tN 3 q.1 [] p [])
      let y ← (if (3 : Nat) < 100 then .ok x else pWrap 21 x p)
      .ok (y, at1, rd)) := rfl
    refine ia_3 (B := B) hF (by omega) p deep hP hp hdp hB hB3 ?_ ?_ ?_
    · intro S5 v5 f5 e5 b5 k5 p5 S7 f7 e7 k7 p7 S13 f13 k13 p13 o13 S14 f14 k14 p14 t14
      refine h S14 _ (mEnd.good f14 (k5.tr (k7.tr (k13.tr k14))) t14 p14 (by show nx + 1 ≤ nx + 2 * (at0 + 1 + 1 - at0); omega) ?_)
      refine eU.trans ((pb_ok e5).trans ((pb_ok e7).trans ((pb_ok (pJ_leaf (by omega))).trans ?_)))
      rfl
    · intro S5 v5 f5 e5 b5 k5 p5 S8 f8 e8 k8 x8
      refine h S8 _ (mEnd.err f8 (k5.tr k8) x8 ?_)
      exact eU.trans ((pb_ok e5).trans (pb_er e8))
    · intro S6 u6 f6 e6 k6 x6
      refine h S6 _ (mEnd.err f6 k6 x6 ?_)
      exact eU.trans (pb_er e6)
  by_cases c100 : k = 100
  · subst c100
    have eU : pIn tp sz rec 100 p deep at0 rd = (do
      let q ← pLet tp sz 65 80 at0
      let at1 ← pWant tp sz 41 q.2
      let x ← pJ (tN 2 q.1 [] p [])
      let y ← (if (100 : Nat) < 100 then .ok x else pWrap 21 x p)
      .ok (y, at1, rd)) := rfl
    refine ia_100 (B := B) hF (by omega) p deep hP hp hdp hB hB3 ?_ ?_ ?_
    · intro S5 v5 f5 e5 b5 k5 p5 S7 f7 e7 k7 p7 S13 f13 k13 p13 o13 S14 f14 k14 p14 t14 S15 q15 m15
      refine h S15 _ (m15.pre (k5.tr (k7.tr (k13.tr k14))) ?_ (fun x a b e => ?_))
      · refine eU.trans ((pb_ok e5).trans ((pb_ok e7).trans ((pb_ok (pJ_leaf (by omega))).trans ?_)))
        show (pWrap 21 (tN 2 v5 [] p []) p).bind _ = _
        cases pWrap 21 (tN 2 v5 [] p []) p <;> rfl
      · have ea : a = at0 + 1 + 1 := by
          revert e
          cases pWrap 21 (tN 2 v5 [] p []) p with
          | error z => intro e; cases e
          | ok z => intro e; cases e; rfl
        subst ea
        show nx + 1 + 1 ≤ nx + 2 * (at0 + 1 + 1 - at0)
        omega
    · intro S5 v5 f5 e5 b5 k5 p5 S8 f8 e8 k8 x8
      refine h S8 _ (mEnd.err f8 (k5.tr k8) x8 ?_)
      exact eU.trans ((pb_ok e5).trans (pb_er e8))
    · intro S6 u6 f6 e6 k6 x6
      refine h S6 _ (mEnd.err f6 k6 x6 ?_)
      exact eU.trans (pb_er e6)
  by_cases c101 : k = 101
  · subst c101
    have eU : pIn tp sz rec 101 p deep at0 rd = (do
      let q ← pLet tp sz 65 80 at0
      let at1 ← pWant tp sz 41 q.2
      let x ← pJ (tN 3 q.1 [] p [])
      let y ← (if (101 : Nat) < 100 then .ok x else pWrap 21 x p)
      .ok (y, at1, rd)) := rfl
    refine ia_101 (B := B) hF (by omega) p deep hP hp hdp hB hB3 ?_ ?_ ?_
    · intro S5 v5 f5 e5 b5 k5 p5 S7 f7 e7 k7 p7 S13 f13 k13 p13 o13 S14 f14 k14 p14 t14 S15 q15 m15
      refine h S15 _ (m15.pre (k5.tr (k7.tr (k13.tr k14))) ?_ (fun x a b e => ?_))
      · refine eU.trans ((pb_ok e5).trans ((pb_ok e7).trans ((pb_ok (pJ_leaf (by omega))).trans ?_)))
        show (pWrap 21 (tN 3 v5 [] p []) p).bind _ = _
        cases pWrap 21 (tN 3 v5 [] p []) p <;> rfl
      · have ea : a = at0 + 1 + 1 := by
          revert e
          cases pWrap 21 (tN 3 v5 [] p []) p with
          | error z => intro e; cases e
          | ok z => intro e; cases e; rfl
        subst ea
        show nx + 1 + 1 ≤ nx + 2 * (at0 + 1 + 1 - at0)
        omega
    · intro S5 v5 f5 e5 b5 k5 p5 S8 f8 e8 k8 x8
      refine h S8 _ (mEnd.err f8 (k5.tr k8) x8 ?_)
      exact eU.trans ((pb_ok e5).trans (pb_er e8))
    · intro S6 u6 f6 e6 k6 x6
      refine h S6 _ (mEnd.err f6 k6 x6 ?_)
      exact eU.trans (pb_er e6)
  by_cases c4 : k = 4
  · subst c4
    have eU : pIn tp sz rec 4 p deep at0 rd = (do
      let q ← pNum tp sz at0
      let at1 ← pWant tp sz 41 q.2
      let x ← pJ (tN 4 q.1 [] p [])
      .ok (x, at1, rd)) := rfl
    refine ia_4 (B := B) hF (by omega) p deep hP hp hdp hB hB3 ?_ ?_ ?_
    · intro S5 v5 at5 f5 e5 a5 b5 c5 g5 k5 p5 S7 f7 e7 k7 p7 S13 f13 k13 p13 o13 S14 f14 k14 p14 t14
      refine h S14 _ (mEnd.good f14 (k5.tr (k7.tr (k13.tr k14))) t14 p14 (by show nx + 1 ≤ nx + 2 * (at5 + 1 - at0); omega) ?_)
      exact eU.trans ((pb_ok e5).trans ((pb_ok e7).trans ((pb_ok (pJ_leaf (by omega))).trans rfl)))
    · intro S5 v5 at5 f5 e5 a5 b5 c5 g5 k5 p5 S8 f8 e8 k8 x8
      refine h S8 _ (mEnd.err f8 (k5.tr k8) x8 ?_)
      exact eU.trans ((pb_ok e5).trans (pb_er e8))
    · intro S6 u6 z6 f6 e6 a6 k6 x6
      refine h S6 _ (mEnd.err f6 k6 x6 ?_)
      exact eU.trans (pb_er e6)
  by_cases c5 : k = 5
  · subst c5
    have eU : pIn tp sz rec 5 p deep at0 rd = (do
      let q ← pNum tp sz at0
      let at1 ← pWant tp sz 41 q.2
      let x ← pJ (tN 5 q.1 [] p [])
      .ok (x, at1, rd)) := rfl
    refine ia_5 (B := B) hF (by omega) p deep hP hp hdp hB hB3 ?_ ?_ ?_
    · intro S5 v5 at5 f5 e5 a5 b5 c5 g5 k5 p5 S7 f7 e7 k7 p7 S13 f13 k13 p13 o13 S14 f14 k14 p14 t14
      refine h S14 _ (mEnd.good f14 (k5.tr (k7.tr (k13.tr k14))) t14 p14 (by show nx + 1 ≤ nx + 2 * (at5 + 1 - at0); omega) ?_)
      exact eU.trans ((pb_ok e5).trans ((pb_ok e7).trans ((pb_ok (pJ_leaf (by omega))).trans rfl)))
    · intro S5 v5 at5 f5 e5 a5 b5 c5 g5 k5 p5 S8 f8 e8 k8 x8
      refine h S8 _ (mEnd.err f8 (k5.tr k8) x8 ?_)
      exact eU.trans ((pb_ok e5).trans (pb_er e8))
    · intro S6 u6 z6 f6 e6 a6 k6 x6
      refine h S6 _ (mEnd.err f6 k6 x6 ?_)
      exact eU.trans (pb_er e6)
  by_cases c6 : k = 6
  · subst c6
    have eU : pIn tp sz rec 6 p deep at0 rd = (do
      let q ← pLet tp sz 48 55 at0
      let at1 ← pWant tp sz 41 q.2
      let x ← pJ (tN 6 q.1 [] p [])
      .ok (x, at1, rd)) := rfl
    refine ia_6 (B := B) hF (by omega) p deep hP hp hdp hB hB3 ?_ ?_ ?_
    · intro S5 v5 f5 e5 b5 k5 p5 S7 f7 e7 k7 p7 S13 f13 k13 p13 o13 S14 f14 k14 p14 t14
      refine h S14 _ (mEnd.good f14 (k5.tr (k7.tr (k13.tr k14))) t14 p14 (by show nx + 1 ≤ nx + 2 * (at0 + 1 + 1 - at0); omega) ?_)
      exact eU.trans ((pb_ok e5).trans ((pb_ok e7).trans ((pb_ok (pJ_leaf (by omega))).trans rfl)))
    · intro S5 v5 f5 e5 b5 k5 p5 S8 f8 e8 k8 x8
      refine h S8 _ (mEnd.err f8 (k5.tr k8) x8 ?_)
      exact eU.trans ((pb_ok e5).trans (pb_er e8))
    · intro S6 u6 f6 e6 k6 x6
      refine h S6 _ (mEnd.err f6 k6 x6 ?_)
      exact eU.trans (pb_er e6)
  by_cases c7 : k = 7
  · subst c7
    have eU : pIn tp sz rec 7 p deep at0 rd = (do
      let q ← pLet tp sz 48 55 at0
      let at1 ← pWant tp sz 41 q.2
      let x ← pJ (tN 7 q.1 [] p [])
      .ok (x, at1, rd)) := rfl
    refine ia_7 (B := B) hF (by omega) p deep hP hp hdp hB hB3 ?_ ?_ ?_
    · intro S5 v5 f5 e5 b5 k5 p5 S7 f7 e7 k7 p7 S13 f13 k13 p13 o13 S14 f14 k14 p14 t14
      refine h S14 _ (mEnd.good f14 (k5.tr (k7.tr (k13.tr k14))) t14 p14 (by show nx + 1 ≤ nx + 2 * (at0 + 1 + 1 - at0); omega) ?_)
      exact eU.trans ((pb_ok e5).trans ((pb_ok e7).trans ((pb_ok (pJ_leaf (by omega))).trans rfl)))
    · intro S5 v5 f5 e5 b5 k5 p5 S8 f8 e8 k8 x8
      refine h S8 _ (mEnd.err f8 (k5.tr k8) x8 ?_)
      exact eU.trans ((pb_ok e5).trans (pb_er e8))
    · intro S6 u6 f6 e6 k6 x6
      refine h S6 _ (mEnd.err f6 k6 x6 ?_)
      exact eU.trans (pb_er e6)
  by_cases c8 : k = 8
  · subst c8
    have eU : pIn tp sz rec 8 p deep at0 rd = (do
      let q ← pLet tp sz 48 55 at0
      let at1 ← pWant tp sz 41 q.2
      let x ← pJ (tN 8 q.1 [] p [])
      .ok (x, at1, rd)) := rfl
    refine ia_8 (B := B) hF (by omega) p deep hP hp hdp hB hB3 ?_ ?_ ?_
    · intro S5 v5 f5 e5 b5 k5 p5 S7 f7 e7 k7 p7 S13 f13 k13 p13 o13 S14 f14 k14 p14 t14
      refine h S14 _ (mEnd.good f14 (k5.tr (k7.tr (k13.tr k14))) t14 p14 (by show nx + 1 ≤ nx + 2 * (at0 + 1 + 1 - at0); omega) ?_)
      exact eU.trans ((pb_ok e5).trans ((pb_ok e7).trans ((pb_ok (pJ_leaf (by omega))).trans rfl)))
    · intro S5 v5 f5 e5 b5 k5 p5 S8 f8 e8 k8 x8
      refine h S8 _ (mEnd.err f8 (k5.tr k8) x8 ?_)
      exact eU.trans ((pb_ok e5).trans (pb_er e8))
    · intro S6 u6 f6 e6 k6 x6
      refine h S6 _ (mEnd.err f6 k6 x6 ?_)
      exact eU.trans (pb_er e6)
  by_cases c9 : k = 9
  · subst c9
    have eU : pIn tp sz rec 9 p deep at0 rd = (do
      let q ← pLet tp sz 48 55 at0
      let at1 ← pWant tp sz 41 q.2
      let x ← pJ (tN 9 q.1 [] p [])
      .ok (x, at1, rd)) := rfl
    refine ia_9 (B := B) hF (by omega) p deep hP hp hdp hB hB3 ?_ ?_ ?_
    · intro S5 v5 f5 e5 b5 k5 p5 S7 f7 e7 k7 p7 S13 f13 k13 p13 o13 S14 f14 k14 p14 t14
      refine h S14 _ (mEnd.good f14 (k5.tr (k7.tr (k13.tr k14))) t14 p14 (by show nx + 1 ≤ nx + 2 * (at0 + 1 + 1 - at0); omega) ?_)
      exact eU.trans ((pb_ok e5).trans ((pb_ok e7).trans ((pb_ok (pJ_leaf (by omega))).trans rfl)))
    · intro S5 v5 f5 e5 b5 k5 p5 S8 f8 e8 k8 x8
      refine h S8 _ (mEnd.err f8 (k5.tr k8) x8 ?_)
      exact eU.trans ((pb_ok e5).trans (pb_er e8))
    · intro S6 u6 f6 e6 k6 x6
      refine h S6 _ (mEnd.err f6 k6 x6 ?_)
      exact eU.trans (pb_er e6)
  omega
end Q9b

