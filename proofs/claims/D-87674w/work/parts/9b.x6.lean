set_option maxRecDepth 100000
/-! ===== the house judges: wrappers, andor, leaves ===== -/
theorem wj_19 {d : Nat} {S : zS} (hF : zFin true S) (hd : 2 ≤ d) (n x : Nat) (p a tx : Int32) (hn0 : 1639 ≤ n) (hn : n < gN S) (hx : x < gN S) (hxn : x ≠ n) (hcx : zNc (ztyp S x) = true) (hN2 : gN S < 1900000) (htn : ztyp S n = 11) (how : gI S 160 n = Int32.ofNat 97) (hpx : gP S 161 n = some x) (hbx : gI S 145 x = p + 1) (hzx : gI S 147 x = zbo (bt 0 a)) (hox : gI S 148 x = zbo (bt 1 a)) (hnx : gI S 149 x = zbo (bt 2 a)) (hdx : gI S 150 x = zbo (bt 3 a)) (hux : gI S 151 x = zbo (bt 4 a)) (hsx : gI S 152 x = zbo (bt 5 a)) (hfx : gI S 153 x = zbo (bt 6 a)) (hex : gI S 154 x = zbo (bt 7 a)) (hmx : gI S 155 x = zbo (bt 8 a)) (hmixedx : gI S 156 x = zbo (bt 9 a)) (htx : gI S 146 x = tx) (hm0 : gI S 156 n = zbo False) (ht0 : gI S 146 n = 0) {post : Outcome × zS → Prop} (h1 : ((p + 1) = 1) → post (.returned none, sI (sI (sI (sI (sI (sI (sI (sI (sI (sI (sI (sI S 145 n 4) 147 n 0) 148 n 0) 149 n 0) 150 n (zbo (bt 3 a))) 151 n (zbo (bt 4 a))) 152 n (zbo (bt 5 a))) 153 n (zbo (bt 6 a))) 154 n (zbo (bt 7 a))) 155 n (zbo (bt 8 a))) 156 n (zbo (bt 9 a))) 146 n ((0 : Int32) ||| tx))) (h2 : (¬ ((p + 1) = 1)) → post (.threw (gN S), sI (sI (sT (sNew S 8 0 (zslots 8)) (gN S) 8 1) 136 (gN S) 3) 137 (gN S) (gI S 144 n))) : zCall d 293 [.ref n] S post := by
  have ht : ztab 293 = ztb293 := rfl
  show zEv d 293 0 [.ref n] [] S post
  refine zv_c1 ht rfl rfl ?_
  have C2 : ∀ (pst1 : Outcome × zS → Prop), (pst1 (.returned (some (.int (zbo ((p + 1) = 1)))), S)) → zCall (d - 1) 294 [.ref n] S pst1 := by
    intro pst1 k7
    have ht3 : ztab 294 = ztb294 := rfl
    show zEv (d - 1) 294 0 [.ref n] [] S pst1
    refine zv_c1 ht3 rfl rfl ?_
    refine zv_ei (x := 97) ht3 rfl rfl (zhas_of (htn) rfl) how ?_
    refine zv_sw ht3 rfl rfl rfl rfl rfl ?_
    refine And.intro (fun _ => ?_) (fun h => absurd (by decide) h)
    refine zv_c1 ht3 rfl rfl ?_
    refine zv_g3 (q := x) ht3 rfl hF rfl rfl (zhas_of (htn) rfl) hpx ?_
    refine zv_ei (x := p + 1) ht3 rfl rfl (zhas_nc hcx (by decide)) hbx ?_
    refine zv_c1 ht3 rfl rfl ?_
    have J5 : zEv (d - 1) 294 80 [.retAddr 0] [.int (zbo ((p + 1) = 1))] S pst1 := by
      exact zv_rc ht3 rfl rfl rfl rfl zbo_rng k7
    refine zv_br ht3 rfl rfl rfl (fun b4 => ?_) (fun b4 => ?_)
    · refine zv_c1 ht3 rfl rfl ?_
      exact zEv.wk (L := [.retAddr 0]) (L' := [.ref n]) (And.intro (Or.inr rfl) trivial) (zv_sub (zz := zbo ((p + 1) = 1)) (zy := 0) (p := fun zz => zEv (d - 1) 294 80 [.retAddr 0] [.int zz] S pst1) (zbo_neg b4) J5)
    · replace b4 : (p + 1) = 1 := Classical.not_not.mp b4
      refine zv_c1 ht3 rfl rfl (zv_c1 ht3 rfl rfl ?_)
      exact zEv.wk (L := [.retAddr 0]) (L' := [.ref n]) (And.intro (Or.inr rfl) trivial) (zv_sub (zz := zbo ((p + 1) = 1)) (zy := 1) (p := fun zz => zEv (d - 1) 294 80 [.retAddr 0] [.int zz] S pst1) (zbo_pos b4) J5)
  refine zv_cl ht rfl rfl rfl (zv_tgv (htn) rfl) (by omega) (Nat.le_of_ble_eq_true rfl) (C2 _ ?_)
  show zEv d 293 4 [.ref n] [.int (zbo ((p + 1) = 1))] S post
  refine zv_br ht rfl rfl rfl (fun b8 => ?_) (fun b8 => ?_)
  · replace b8 : (p + 1) = 1 := Classical.byContradiction (fun h => b8 ((zbo_eq0 : (zbo ((p + 1) = 1)) = 0 ↔ ¬ ((p + 1) = 1)).mpr h))
    refine zv_c1 ht rfl rfl ?_
    refine zv_ei (x := 97) ht rfl rfl (zhas_of (htn) rfl) how ?_
    refine zv_sw ht rfl rfl rfl rfl rfl ?_
    refine And.intro (fun _ => ?_) (fun h => absurd (by decide) h)
    refine zv_c1 ht rfl rfl (zv_c1 ht rfl rfl (zv_c1 ht rfl rfl (zv_c1 ht rfl rfl (zv_c1 ht rfl rfl (zv_c1 ht rfl rfl ?_)))))
    refine zv_g3 (q := x) ht rfl hF rfl rfl (zhas_of (htn) rfl) hpx ?_
    refine zv_ei (x := zbo (bt 3 a)) ht rfl rfl (zhas_nc hcx (by decide)) hdx ?_
    refine zv_c1 ht rfl rfl ?_
    refine zv_g3 (q := x) ht rfl hF rfl rfl (zhas_of (htn) rfl) hpx ?_
    refine zv_ei (x := zbo (bt 4 a)) ht rfl rfl (zhas_nc hcx (by decide)) hux ?_
    have C10 : ∀ (pst9 : Outcome × zS → Prop), (pst9 (.returned none, sI (sI (sI (sI (sI (sI S 145 n 4) 147 n 0) 148 n 0) 149 n 0) 150 n (zbo (bt 3 a))) 151 n (zbo (bt 4 a)))) → zCall (d - 1) 284 [.ref n, .int 4, .int 0, .int 0, .int 0, .int (zbo (bt 3 a)), .int (zbo (bt 4 a))] S pst9 := by
      intro pst9 k12
      have ht11 : ztab 284 = ztb284 := rfl
      show zEv (d - 1) 284 0 [.ref n, .int 4, .int 0, .int 0, .int 0, .int (zbo (bt 3 a)), .int (zbo (bt 4 a))] [] S pst9
      refine zv_c1 ht11 rfl rfl (zv_c1 ht11 rfl rfl ?_)
      refine zv_ci (S' := sI S 145 n 4) ht11 rfl rfl ⟨(zhas_of (htn) rfl), (show n < gN S from by omega)⟩ ?_
      refine zv_c1 ht11 rfl rfl (zv_c1 ht11 rfl rfl ?_)
      refine zv_ci (S' := sI (sI S 145 n 4) 147 n 0) ht11 rfl rfl ⟨⟨(zhas_of (htn) rfl), (show n < gN S from by omega)⟩, (by decide)⟩ ?_
      refine zv_c1 ht11 rfl rfl (zv_c1 ht11 rfl rfl ?_)
      refine zv_ci (S' := sI (sI (sI S 145 n 4) 147 n 0) 148 n 0) ht11 rfl rfl ⟨⟨(zhas_of (htn) rfl), (show n < gN S from by omega)⟩, (by decide)⟩ ?_
      refine zv_c1 ht11 rfl rfl (zv_c1 ht11 rfl rfl ?_)
      refine zv_ci (S' := sI (sI (sI (sI S 145 n 4) 147 n 0) 148 n 0) 149 n 0) ht11 rfl rfl ⟨⟨(zhas_of (htn) rfl), (show n < gN S from by omega)⟩, (by decide)⟩ ?_
      refine zv_c1 ht11 rfl rfl (zv_c1 ht11 rfl rfl ?_)
      refine zv_ci (S' := sI (sI (sI (sI (sI S 145 n 4) 147 n 0) 148 n 0) 149 n 0) 150 n (zbo (bt 3 a))) ht11 rfl rfl ⟨⟨(zhas_of (htn) rfl), (show n < gN S from by omega)⟩, zbo_rng⟩ ?_
      refine zv_c1 ht11 rfl rfl (zv_c1 ht11 rfl rfl ?_)
      refine zv_ci (S' := sI (sI (sI (sI (sI (sI S 145 n 4) 147 n 0) 148 n 0) 149 n 0) 150 n (zbo (bt 3 a))) 151 n (zbo (bt 4 a))) ht11 rfl rfl ⟨⟨(zhas_of (htn) rfl), (show n < gN S from by omega)⟩, zbo_rng⟩ ?_
      exact zv_rt ht11 rfl rfl rfl rfl k12
    refine zv_cl ht rfl rfl rfl (zv_tgv (htn) rfl) (by omega) (Nat.le_of_ble_eq_true rfl) (C10 _ ?_)
    show zEv d 293 98 [.ref n] [] (sI (sI (sI (sI (sI (sI S 145 n 4) 147 n 0) 148 n 0) 149 n 0) 150 n (zbo (bt 3 a))) 151 n (zbo (bt 4 a))) post
    refine zv_c1 ht rfl rfl (zv_c1 ht rfl rfl ?_)
    refine zv_ei (x := 97) ht rfl rfl (zhas_of (htn) rfl) how ?_
    refine zv_sw ht rfl rfl rfl rfl rfl ?_
    refine And.intro (fun h => absurd h (by decide)) (fun _ => ?_)
    refine And.intro (fun h => absurd h (by decide)) (fun _ => ?_)
    refine And.intro (fun h => absurd h (by decide)) (fun _ => ?_)
    refine zv_c1 ht rfl rfl (zv_c1 ht rfl rfl ?_)
    refine zv_g3 (q := x) ht rfl hF rfl rfl (zhas_of (htn) rfl) hpx ?_
    refine zv_ei (x := zbo (bt 5 a)) ht rfl rfl (zhas_nc hcx (by decide)) hsx ?_
    refine zv_c1 ht rfl rfl ?_
    refine zv_g3 (q := x) ht rfl hF rfl rfl (zhas_of (htn) rfl) hpx ?_
    refine zv_ei (x := zbo (bt 6 a)) ht rfl rfl (zhas_nc hcx (by decide)) hfx ?_
    refine zv_c1 ht rfl rfl ?_
    refine zv_g3 (q := x) ht rfl hF rfl rfl (zhas_of (htn) rfl) hpx ?_
    refine zv_ei (x := zbo (bt 7 a)) ht rfl rfl (zhas_nc hcx (by decide)) hex ?_
    refine zv_c1 ht rfl rfl ?_
    refine zv_g3 (q := x) ht rfl hF rfl rfl (zhas_of (htn) rfl) hpx ?_
    refine zv_ei (x := zbo (bt 8 a)) ht rfl rfl (zhas_nc hcx (by decide)) hmx ?_
    have C14 : ∀ (pst13 : Outcome × zS → Prop), (pst13 (.returned none, sI (sI (sI (sI (sI (sI (sI (sI (sI (sI S 145 n 4) 147 n 0) 148 n 0) 149 n 0) 150 n (zbo (bt 3 a))) 151 n (zbo (bt 4 a))) 152 n (zbo (bt 5 a))) 153 n (zbo (bt 6 a))) 154 n (zbo (bt 7 a))) 155 n (zbo (bt 8 a)))) → zCall (d - 1) 285 [.ref n, .int (zbo (bt 5 a)), .int (zbo (bt 6 a)), .int (zbo (bt 7 a)), .int (zbo (bt 8 a))] (sI (sI (sI (sI (sI (sI S 145 n 4) 147 n 0) 148 n 0) 149 n 0) 150 n (zbo (bt 3 a))) 151 n (zbo (bt 4 a))) pst13 := by
      intro pst13 k16
      have ht15 : ztab 285 = ztb285 := rfl
      show zEv (d - 1) 285 0 [.ref n, .int (zbo (bt 5 a)), .int (zbo (bt 6 a)), .int (zbo (bt 7 a)), .int (zbo (bt 8 a))] [] (sI (sI (sI (sI (sI (sI S 145 n 4) 147 n 0) 148 n 0) 149 n 0) 150 n (zbo (bt 3 a))) 151 n (zbo (bt 4 a))) pst13
      refine zv_c1 ht15 rfl rfl (zv_c1 ht15 rfl rfl ?_)
      refine zv_ci (S' := sI (sI (sI (sI (sI (sI (sI S 145 n 4) 147 n 0) 148 n 0) 149 n 0) 150 n (zbo (bt 3 a))) 151 n (zbo (bt 4 a))) 152 n (zbo (bt 5 a))) ht15 rfl rfl ⟨⟨(zhas_of (htn) rfl), (show n < gN S from by omega)⟩, zbo_rng⟩ ?_
      refine zv_c1 ht15 rfl rfl (zv_c1 ht15 rfl rfl ?_)
      refine zv_ci (S' := sI (sI (sI (sI (sI (sI (sI (sI S 145 n 4) 147 n 0) 148 n 0) 149 n 0) 150 n (zbo (bt 3 a))) 151 n (zbo (bt 4 a))) 152 n (zbo (bt 5 a))) 153 n (zbo (bt 6 a))) ht15 rfl rfl ⟨⟨(zhas_of (htn) rfl), (show n < gN S from by omega)⟩, zbo_rng⟩ ?_
      refine zv_c1 ht15 rfl rfl (zv_c1 ht15 rfl rfl ?_)
      refine zv_ci (S' := sI (sI (sI (sI (sI (sI (sI (sI (sI S 145 n 4) 147 n 0) 148 n 0) 149 n 0) 150 n (zbo (bt 3 a))) 151 n (zbo (bt 4 a))) 152 n (zbo (bt 5 a))) 153 n (zbo (bt 6 a))) 154 n (zbo (bt 7 a))) ht15 rfl rfl ⟨⟨(zhas_of (htn) rfl), (show n < gN S from by omega)⟩, zbo_rng⟩ ?_
      refine zv_c1 ht15 rfl rfl (zv_c1 ht15 rfl rfl ?_)
      refine zv_ci (S' := sI (sI (sI (sI (sI (sI (sI (sI (sI (sI S 145 n 4) 147 n 0) 148 n 0) 149 n 0) 150 n (zbo (bt 3 a))) 151 n (zbo (bt 4 a))) 152 n (zbo (bt 5 a))) 153 n (zbo (bt 6 a))) 154 n (zbo (bt 7 a))) 155 n (zbo (bt 8 a))) ht15 rfl rfl ⟨⟨(zhas_of (htn) rfl), (show n < gN S from by omega)⟩, zbo_rng⟩ ?_
      exact zv_rt ht15 rfl rfl rfl rfl k16
    refine zv_cl ht rfl rfl rfl (zv_tgv (htn) rfl) (by omega) (Nat.le_of_ble_eq_true rfl) (C14 _ ?_)
    show zEv d 293 379 [.ref n] [] (sI (sI (sI (sI (sI (sI (sI (sI (sI (sI S 145 n 4) 147 n 0) 148 n 0) 149 n 0) 150 n (zbo (bt 3 a))) 151 n (zbo (bt 4 a))) 152 n (zbo (bt 5 a))) 153 n (zbo (bt 6 a))) 154 n (zbo (bt 7 a))) 155 n (zbo (bt 8 a))) post
    refine zv_c1 ht rfl rfl (zv_c1 ht rfl rfl ?_)
    refine zv_g3 (q := x) ht rfl hF rfl rfl (zhas_of (htn) rfl) hpx ?_
    refine zv_c1 ht rfl rfl ?_
    have C18 : ∀ (pst17 : Outcome × zS → Prop), (pst17 (.returned none, sI (sI (sI (sI (sI (sI (sI (sI (sI (sI (sI (sI S 145 n 4) 147 n 0) 148 n 0) 149 n 0) 150 n (zbo (bt 3 a))) 151 n (zbo (bt 4 a))) 152 n (zbo (bt 5 a))) 153 n (zbo (bt 6 a))) 154 n (zbo (bt 7 a))) 155 n (zbo (bt 8 a))) 156 n (zbo (bt 9 a))) 146 n ((0 : Int32) ||| tx))) → zCall (d - 1) 286 [.ref n, .ref x, .int 0] (sI (sI (sI (sI (sI (sI (sI (sI (sI (sI S 145 n 4) 147 n 0) 148 n 0) 149 n 0) 150 n (zbo (bt 3 a))) 151 n (zbo (bt 4 a))) 152 n (zbo (bt 5 a))) 153 n (zbo (bt 6 a))) 154 n (zbo (bt 7 a))) 155 n (zbo (bt 8 a))) pst17 := by
      intro pst17 k24
      have ht19 : ztab 286 = ztb286 := rfl
      show zEv (d - 1) 286 0 [.ref n, .ref x, .int 0] [] (sI (sI (sI (sI (sI (sI (sI (sI (sI (sI S 145 n 4) 147 n 0) 148 n 0) 149 n 0) 150 n (zbo (bt 3 a))) 151 n (zbo (bt 4 a))) 152 n (zbo (bt 5 a))) 153 n (zbo (bt 6 a))) 154 n (zbo (bt 7 a))) 155 n (zbo (bt 8 a))) pst17
      refine zv_c1 ht19 rfl rfl ?_
      refine zv_br ht19 rfl rfl rfl (fun _ => ?_) (fun h => absurd (by decide) h)
      refine zv_c1 ht19 rfl rfl (zv_c1 ht19 rfl rfl ?_)
      refine zv_ei (x := zbo False) ht19 rfl rfl (zhas_of (htn) rfl) hm0 ?_
      refine zv_br ht19 rfl rfl rfl (fun b20 => (b20 ((zbo_eq0 : (zbo False) = 0 ↔ ¬ False).mpr trivial)).elim) (fun b20 => ?_)
      refine zv_c1 ht19 rfl rfl ?_
      refine zv_ei (x := zbo (bt 9 a)) ht19 rfl rfl (zhas_nc hcx (by decide)) hmixedx ?_
      have J22 : zEv (d - 1) 286 73 [.ref n, .ref x, .retAddr 0] [.int (zbo (bt 9 a)), .ref n] (sI (sI (sI (sI (sI (sI (sI (sI (sI (sI S 145 n 4) 147 n 0) 148 n 0) 149 n 0) 150 n (zbo (bt 3 a))) 151 n (zbo (bt 4 a))) 152 n (zbo (bt 5 a))) 153 n (zbo (bt 6 a))) 154 n (zbo (bt 7 a))) 155 n (zbo (bt 8 a))) pst17 := by
        refine zv_ci (S' := sI (sI (sI (sI (sI (sI (sI (sI (sI (sI (sI S 145 n 4) 147 n 0) 148 n 0) 149 n 0) 150 n (zbo (bt 3 a))) 151 n (zbo (bt 4 a))) 152 n (zbo (bt 5 a))) 153 n (zbo (bt 6 a))) 154 n (zbo (bt 7 a))) 155 n (zbo (bt 8 a))) 156 n (zbo (bt 9 a))) ht19 rfl rfl ⟨⟨(zhas_of (htn) rfl), (show n < gN S from by omega)⟩, zbo_rng⟩ ?_
        refine zv_c1 ht19 rfl rfl (zv_c1 ht19 rfl rfl ?_)
        refine zv_ei (x := 0) ht19 rfl rfl (zhas_of (htn) rfl) ht0 ?_
        refine zv_c1 ht19 rfl rfl ?_
        refine zv_ei (x := tx) ht19 rfl rfl (zhas_nc hcx (by decide)) htx ?_
        refine zv_c1 (st' := [.int ((0 : Int32) ||| tx), .ref n]) (S' := sI (sI (sI (sI (sI (sI (sI (sI (sI (sI (sI S 145 n 4) 147 n 0) 148 n 0) 149 n 0) 150 n (zbo (bt 3 a))) 151 n (zbo (bt 4 a))) 152 n (zbo (bt 5 a))) 153 n (zbo (bt 6 a))) 154 n (zbo (bt 7 a))) 155 n (zbo (bt 8 a))) 156 n (zbo (bt 9 a))) ht19 rfl rfl ?_
        refine zv_ci (S' := sI (sI (sI (sI (sI (sI (sI (sI (sI (sI (sI (sI S 145 n 4) 147 n 0) 148 n 0) 149 n 0) 150 n (zbo (bt 3 a))) 151 n (zbo (bt 4 a))) 152 n (zbo (bt 5 a))) 153 n (zbo (bt 6 a))) 154 n (zbo (bt 7 a))) 155 n (zbo (bt 8 a))) 156 n (zbo (bt 9 a))) 146 n ((0 : Int32) ||| tx)) ht19 rfl rfl ⟨(zhas_of (htn) rfl), (show n < gN S from by omega)⟩ ?_
        exact zv_rt ht19 rfl rfl rfl rfl k24
      refine zv_br ht19 rfl rfl rfl (fun b21 => ?_) (fun b21 => ?_)
      · replace b21 : ¬ (bt 9 a) := (zbo_eq0 : (zbo (bt 9 a)) = 0 ↔ ¬ (bt 9 a)).mp b21
        refine zv_c1 ht19 rfl rfl ?_
        exact zEv.wk (L := [.ref n, .ref x, .retAddr 0]) (L' := [.ref n, .ref x, .int 0]) (And.intro (Or.inl rfl) (And.intro (Or.inl rfl) (And.intro (Or.inr rfl) trivial))) (zv_sub (zz := zbo (bt 9 a)) (zy := 0) (p := fun zz => zEv (d - 1) 286 73 [.ref n, .ref x, .retAddr 0] [.int zz, .ref n] (sI (sI (sI (sI (sI (sI (sI (sI (sI (sI S 145 n 4) 147 n 0) 148 n 0) 149 n 0) 150 n (zbo (bt 3 a))) 151 n (zbo (bt 4 a))) 152 n (zbo (bt 5 a))) 153 n (zbo (bt 6 a))) 154 n (zbo (bt 7 a))) 155 n (zbo (bt 8 a))) pst17) (zbo_neg b21) J22)
      · replace b21 : bt 9 a := Classical.byContradiction (fun h => b21 ((zbo_eq0 : (zbo (bt 9 a)) = 0 ↔ ¬ (bt 9 a)).mpr h))
        refine zv_c1 ht19 rfl rfl (zv_c1 ht19 rfl rfl ?_)
        exact zEv.wk (L := [.ref n, .ref x, .retAddr 0]) (L' := [.ref n, .ref x, .int 0]) (And.intro (Or.inl rfl) (And.intro (Or.inl rfl) (And.intro (Or.inr rfl) trivial))) (zv_sub (zz := zbo (bt 9 a)) (zy := 1) (p := fun zz => zEv (d - 1) 286 73 [.ref n, .ref x, .retAddr 0] [.int zz, .ref n] (sI (sI (sI (sI (sI (sI (sI (sI (sI (sI S 145 n 4) 147 n 0) 148 n 0) 149 n 0) 150 n (zbo (bt 3 a))) 151 n (zbo (bt 4 a))) 152 n (zbo (bt 5 a))) 153 n (zbo (bt 6 a))) 154 n (zbo (bt 7 a))) 155 n (zbo (bt 8 a))) pst17) (zbo_pos b21) J22)
    refine zv_cl ht rfl rfl rfl (zv_tgv (htn) rfl) (by omega) (Nat.le_of_ble_eq_true rfl) (C18 _ ?_)
    show zEv d 293 388 [.ref n] [] (sI (sI (sI (sI (sI (sI (sI (sI (sI (sI (sI (sI S 145 n 4) 147 n 0) 148 n 0) 149 n 0) 150 n (zbo (bt 3 a))) 151 n (zbo (bt 4 a))) 152 n (zbo (bt 5 a))) 153 n (zbo (bt 6 a))) 154 n (zbo (bt 7 a))) 155 n (zbo (bt 8 a))) 156 n (zbo (bt 9 a))) 146 n ((0 : Int32) ||| tx)) post
    exact zv_rt ht rfl rfl rfl rfl (h1 b8)
  · replace b8 : ¬ ((p + 1) = 1) := (zbo_eq0 : (zbo ((p + 1) = 1)) = 0 ↔ ¬ ((p + 1) = 1)).mp (Classical.not_not.mp b8)
    refine zv_c1 ht rfl rfl ?_
    have C26 : ∀ (pst25 : Outcome × zS → Prop), (pst25 (.returned (some (.ref (gN S))), sI (sI (sT (sNew S 8 0 (zslots 8)) (gN S) 8 1) 136 (gN S) 3) 137 (gN S) (gI S 144 n))) → zCall (d - 1) 283 [.ref n] S pst25 := by
      intro pst25 k32
      have ht27 : ztab 283 = ztb283 := rfl
      show zEv (d - 1) 283 0 [.ref n] [] S pst25
      refine zv_ci (st' := [.ref (gN S)]) (S' := sNew S 8 0 (zslots 8)) ht27 rfl rfl (znew_ok (show 1639 ≤ gN S from by omega) (show gN S < 2000000 from by omega)) ?_
      refine zv_c1 ht27 rfl rfl (zv_c1 ht27 rfl rfl (zv_c1 ht27 rfl rfl ?_))
      refine zv_ei (x := gI S 144 n) ht27 rfl rfl (zhas_of (Eq.trans (ztyp_new (S := S) (t := 8) (n := 0) (s := zslots 8) (show n ≠ gN S from by omega)) htn) rfl) (gI_new (S := S) (t := 8) (n := 0) (s := zslots 8) (show n ≠ gN S from by omega)) ?_
      have C29 : ∀ (pst28 : Outcome × zS → Prop), (pst28 (.returned none, sI (sI (sT (sNew S 8 0 (zslots 8)) (gN S) 8 1) 136 (gN S) 3) 137 (gN S) (gI S 144 n))) → zCall ((d - 1) - 1) 269 [.ref (gN S), .int 3, .int (gI S 144 n)] (sNew S 8 0 (zslots 8)) pst28 := by
        intro pst28 k31
        have ht30 : ztab 269 = ztb269 := rfl
        show zEv ((d - 1) - 1) 269 0 [.ref (gN S), .int 3, .int (gI S 144 n)] [] (sNew S 8 0 (zslots 8)) pst28
        refine zv_c1 ht30 rfl rfl ?_
        refine zv_ci (S' := sT (sNew S 8 0 (zslots 8)) (gN S) 8 1) ht30 rfl rfl ⟨ztyp_new_at (S := S) (t := 8) (n := 0) (s := zslots 8) (show 1639 ≤ gN S from by omega), (show gN S < gN S + 1 from by omega), zlen_new_at (S := S) (t := 8) (n := 0) (s := zslots 8) (show 1639 ≤ gN S from by omega)⟩ ?_
        refine zv_c1 ht30 rfl rfl (zv_c1 ht30 rfl rfl ?_)
        refine zv_ci (S' := sI (sT (sNew S 8 0 (zslots 8)) (gN S) 8 1) 136 (gN S) 3) ht30 rfl rfl ⟨⟨(zhas_of (ztyp_sT1 (show 1639 ≤ gN S from by omega)) rfl), (show gN S < gN S + 1 from by omega)⟩, zlen_sT1 (show 1639 ≤ gN S from by omega)⟩ ?_
        refine zv_c1 ht30 rfl rfl (zv_c1 ht30 rfl rfl ?_)
        refine zv_ci (S' := sI (sI (sT (sNew S 8 0 (zslots 8)) (gN S) 8 1) 136 (gN S) 3) 137 (gN S) (gI S 144 n)) ht30 rfl rfl ⟨⟨(zhas_of (ztyp_sT1 (show 1639 ≤ gN S from by omega)) rfl), (show gN S < gN S + 1 from by omega)⟩, zlen_sT1 (show 1639 ≤ gN S from by omega)⟩ ?_
        exact zv_rt ht30 rfl rfl rfl rfl k31
      refine zv_cl ht27 rfl rfl rfl rfl (by omega) (Nat.le_of_ble_eq_true rfl) (C29 _ ?_)
      show zEv (d - 1) 283 12 [.ref n] [.ref (gN S)] (sI (sI (sT (sNew S 8 0 (zslots 8)) (gN S) 8 1) 136 (gN S) 3) 137 (gN S) (gI S 144 n)) pst25
      exact zv_rt ht27 rfl rfl rfl rfl k32
    refine zv_cl ht rfl rfl rfl (zv_tgv (htn) rfl) (by omega) (Nat.le_of_ble_eq_true rfl) (C26 _ ?_)
    show zEv d 293 11 [.ref n] [.ref (gN S)] (sI (sI (sT (sNew S 8 0 (zslots 8)) (gN S) 8 1) 136 (gN S) 3) 137 (gN S) (gI S 144 n)) post
    exact zv_th ht rfl rfl rfl ⟨ztyp_sT1 (show 1639 ≤ gN S from by omega), (show gN S < gN S + 1 from by omega)⟩ rfl (h2 b8)

theorem wj_20 {d : Nat} {S : zS} (hF : zFin true S) (hd : 2 ≤ d) (n x : Nat) (p a tx : Int32) (hn0 : 1639 ≤ n) (hn : n < gN S) (hx : x < gN S) (hxn : x ≠ n) (hcx : zNc (ztyp S x) = true) (hN2 : gN S < 1900000) (htn : ztyp S n = 11) (how : gI S 160 n = Int32.ofNat 115) (hpx : gP S 161 n = some x) (hbx : gI S 145 x = p + 1) (hzx : gI S 147 x = zbo (bt 0 a)) (hox : gI S 148 x = zbo (bt 1 a)) (hnx : gI S 149 x = zbo (bt 2 a)) (hdx : gI S 150 x = zbo (bt 3 a)) (hux : gI S 151 x = zbo (bt 4 a)) (hsx : gI S 152 x = zbo (bt 5 a)) (hfx : gI S 153 x = zbo (bt 6 a)) (hex : gI S 154 x = zbo (bt 7 a)) (hmx : gI S 155 x = zbo (bt 8 a)) (hmixedx : gI S 156 x = zbo (bt 9 a)) (htx : gI S 146 x = tx) (hm0 : gI S 156 n = zbo False) (ht0 : gI S 146 n = 0) {post : Outcome × zS → Prop} (h1 : (((p + 1) = 1) ∧ (bt 1 a)) → post (.returned none, sI (sI (sI (sI (sI (sI (sI (sI (sI (sI (sI (sI S 145 n 4) 147 n 0) 148 n 0) 149 n 0) 150 n (zbo (bt 3 a))) 151 n (zbo (bt 4 a))) 152 n (zbo (bt 5 a))) 153 n (zbo (bt 6 a))) 154 n (zbo (bt 7 a))) 155 n (zbo (bt 8 a))) 156 n (zbo (bt 9 a))) 146 n ((0 : Int32) ||| tx))) (h2 : (¬ (((p + 1) = 1) ∧ (bt 1 a))) → post (.threw (gN S), sI (sI (sT (sNew S 8 0 (zslots 8)) (gN S) 8 1) 136 (gN S) 3) 137 (gN S) (gI S 144 n))) : zCall d 293 [.ref n] S post := by
  have ht : ztab 293 = ztb293 := rfl
  show zEv d 293 0 [.ref n] [] S post
  refine zv_c1 ht rfl rfl ?_
  have C2 : ∀ (pst1 : Outcome × zS → Prop), (pst1 (.returned (some (.int (zbo (((p + 1) = 1) ∧ (bt 1 a))))), S)) → zCall (d - 1) 294 [.ref n] S pst1 := by
    intro pst1 k10
    have ht3 : ztab 294 = ztb294 := rfl
    show zEv (d - 1) 294 0 [.ref n] [] S pst1
    refine zv_c1 ht3 rfl rfl ?_
    refine zv_ei (x := 115) ht3 rfl rfl (zhas_of (htn) rfl) how ?_
    refine zv_sw ht3 rfl rfl rfl rfl rfl ?_
    refine And.intro (fun h => absurd h (by decide)) (fun _ => ?_)
    refine And.intro (fun h => absurd h (by decide)) (fun _ => ?_)
    refine And.intro (fun h => absurd h (by decide)) (fun _ => ?_)
    refine And.intro (fun h => absurd h (by decide)) (fun _ => ?_)
    refine And.intro (fun _ => ?_) (fun h => absurd (by decide) h)
    refine zv_c1 ht3 rfl rfl ?_
    refine zv_g3 (q := x) ht3 rfl hF rfl rfl (zhas_of (htn) rfl) hpx ?_
    refine zv_ei (x := p + 1) ht3 rfl rfl (zhas_nc hcx (by decide)) hbx ?_
    refine zv_c1 ht3 rfl rfl ?_
    have J8 : zEv (d - 1) 294 107 [.retAddr 0] [.int (zbo (((p + 1) = 1) ∧ (bt 1 a)))] S pst1 := by
      exact zv_rc ht3 rfl rfl rfl rfl zbo_rng k10
    have J6 : ((¬ ((p + 1) = 1)) ∨ (¬ (bt 1 a))) → zEv (d - 1) 294 106 [.retAddr 0] [] S pst1 := by
      intro b7
      refine zv_c1 ht3 rfl rfl ?_
      exact (zv_sub (zz := zbo (((p + 1) = 1) ∧ (bt 1 a))) (zy := 0) (p := fun zz => zEv (d - 1) 294 107 [.retAddr 0] [.int zz] S pst1) (zbo_neg (b7.elim (fun y1 => (fun h => y1 h.1)) (fun y1 => (fun h => y1 h.2)))) J8)
    refine zv_br ht3 rfl rfl rfl (fun b4 => ?_) (fun b4 => ?_)
    · exact zEv.wk (L := [.retAddr 0]) (L' := [.ref n]) (And.intro (Or.inr rfl) trivial) (J6 (Or.inl b4))
    · replace b4 : (p + 1) = 1 := Classical.not_not.mp b4
      refine zv_c1 ht3 rfl rfl ?_
      refine zv_g3 (q := x) ht3 rfl hF rfl rfl (zhas_of (htn) rfl) hpx ?_
      refine zv_ei (x := zbo (bt 1 a)) ht3 rfl rfl (zhas_nc hcx (by decide)) hox ?_
      refine zv_br ht3 rfl rfl rfl (fun b5 => ?_) (fun b5 => ?_)
      · replace b5 : ¬ (bt 1 a) := (zbo_eq0 : (zbo (bt 1 a)) = 0 ↔ ¬ (bt 1 a)).mp b5
        exact zEv.wk (L := [.retAddr 0]) (L' := [.ref n]) (And.intro (Or.inr rfl) trivial) (J6 (Or.inr b5))
      · replace b5 : bt 1 a := Classical.byContradiction (fun h => b5 ((zbo_eq0 : (zbo (bt 1 a)) = 0 ↔ ¬ (bt 1 a)).mpr h))
        refine zv_c1 ht3 rfl rfl (zv_c1 ht3 rfl rfl ?_)
        exact zEv.wk (L := [.retAddr 0]) (L' := [.ref n]) (And.intro (Or.inr rfl) trivial) (zv_sub (zz := zbo (((p + 1) = 1) ∧ (bt 1 a))) (zy := 1) (p := fun zz => zEv (d - 1) 294 107 [.retAddr 0] [.int zz] S pst1) (zbo_pos ⟨b4, b5⟩) J8)
  refine zv_cl ht rfl rfl rfl (zv_tgv (htn) rfl) (by omega) (Nat.le_of_ble_eq_true rfl) (C2 _ ?_)
  show zEv d 293 4 [.ref n] [.int (zbo (((p + 1) = 1) ∧ (bt 1 a)))] S post
  refine zv_br ht rfl rfl rfl (fun b11 => ?_) (fun b11 => ?_)
  · replace b11 : ((p + 1) = 1) ∧ (bt 1 a) := Classical.byContradiction (fun h => b11 ((zbo_eq0 : (zbo (((p + 1) = 1) ∧ (bt 1 a))) = 0 ↔ ¬ (((p + 1) = 1) ∧ (bt 1 a))).mpr h))
    refine zv_c1 ht rfl rfl ?_
    refine zv_ei (x := 115) ht rfl rfl (zhas_of (htn) rfl) how ?_
    refine zv_sw ht rfl rfl rfl rfl rfl ?_
    refine And.intro (fun h => absurd h (by decide)) (fun _ => ?_)
    refine And.intro (fun h => absurd h (by decide)) (fun _ => ?_)
    refine And.intro (fun h => absurd h (by decide)) (fun _ => ?_)
    refine And.intro (fun h => absurd h (by decide)) (fun _ => ?_)
    refine And.intro (fun _ => ?_) (fun h => absurd (by decide) h)
    refine zv_c1 ht rfl rfl (zv_c1 ht rfl rfl (zv_c1 ht rfl rfl (zv_c1 ht rfl rfl (zv_c1 ht rfl rfl (zv_c1 ht rfl rfl ?_)))))
    refine zv_g3 (q := x) ht rfl hF rfl rfl (zhas_of (htn) rfl) hpx ?_
    refine zv_ei (x := zbo (bt 3 a)) ht rfl rfl (zhas_nc hcx (by decide)) hdx ?_
    refine zv_c1 ht rfl rfl ?_
    refine zv_g3 (q := x) ht rfl hF rfl rfl (zhas_of (htn) rfl) hpx ?_
    refine zv_ei (x := zbo (bt 4 a)) ht rfl rfl (zhas_nc hcx (by decide)) hux ?_
    have C13 : ∀ (pst12 : Outcome × zS → Prop), (pst12 (.returned none, sI (sI (sI (sI (sI (sI S 145 n 4) 147 n 0) 148 n 0) 149 n 0) 150 n (zbo (bt 3 a))) 151 n (zbo (bt 4 a)))) → zCall (d - 1) 284 [.ref n, .int 4, .int 0, .int 0, .int 0, .int (zbo (bt 3 a)), .int (zbo (bt 4 a))] S pst12 := by
      intro pst12 k15
      have ht14 : ztab 284 = ztb284 := rfl
      show zEv (d - 1) 284 0 [.ref n, .int 4, .int 0, .int 0, .int 0, .int (zbo (bt 3 a)), .int (zbo (bt 4 a))] [] S pst12
      refine zv_c1 ht14 rfl rfl (zv_c1 ht14 rfl rfl ?_)
      refine zv_ci (S' := sI S 145 n 4) ht14 rfl rfl ⟨(zhas_of (htn) rfl), (show n < gN S from by omega)⟩ ?_
      refine zv_c1 ht14 rfl rfl (zv_c1 ht14 rfl rfl ?_)
      refine zv_ci (S' := sI (sI S 145 n 4) 147 n 0) ht14 rfl rfl ⟨⟨(zhas_of (htn) rfl), (show n < gN S from by omega)⟩, (by decide)⟩ ?_
      refine zv_c1 ht14 rfl rfl (zv_c1 ht14 rfl rfl ?_)
      refine zv_ci (S' := sI (sI (sI S 145 n 4) 147 n 0) 148 n 0) ht14 rfl rfl ⟨⟨(zhas_of (htn) rfl), (show n < gN S from by omega)⟩, (by decide)⟩ ?_
      refine zv_c1 ht14 rfl rfl (zv_c1 ht14 rfl rfl ?_)
      refine zv_ci (S' := sI (sI (sI (sI S 145 n 4) 147 n 0) 148 n 0) 149 n 0) ht14 rfl rfl ⟨⟨(zhas_of (htn) rfl), (show n < gN S from by omega)⟩, (by decide)⟩ ?_
      refine zv_c1 ht14 rfl rfl (zv_c1 ht14 rfl rfl ?_)
      refine zv_ci (S' := sI (sI (sI (sI (sI S 145 n 4) 147 n 0) 148 n 0) 149 n 0) 150 n (zbo (bt 3 a))) ht14 rfl rfl ⟨⟨(zhas_of (htn) rfl), (show n < gN S from by omega)⟩, zbo_rng⟩ ?_
      refine zv_c1 ht14 rfl rfl (zv_c1 ht14 rfl rfl ?_)
      refine zv_ci (S' := sI (sI (sI (sI (sI (sI S 145 n 4) 147 n 0) 148 n 0) 149 n 0) 150 n (zbo (bt 3 a))) 151 n (zbo (bt 4 a))) ht14 rfl rfl ⟨⟨(zhas_of (htn) rfl), (show n < gN S from by omega)⟩, zbo_rng⟩ ?_
      exact zv_rt ht14 rfl rfl rfl rfl k15
    refine zv_cl ht rfl rfl rfl (zv_tgv (htn) rfl) (by omega) (Nat.le_of_ble_eq_true rfl) (C13 _ ?_)
    show zEv d 293 98 [.ref n] [] (sI (sI (sI (sI (sI (sI S 145 n 4) 147 n 0) 148 n 0) 149 n 0) 150 n (zbo (bt 3 a))) 151 n (zbo (bt 4 a))) post
    refine zv_c1 ht rfl rfl (zv_c1 ht rfl rfl ?_)
    refine zv_ei (x := 115) ht rfl rfl (zhas_of (htn) rfl) how ?_
    refine zv_sw ht rfl rfl rfl rfl rfl ?_
    refine And.intro (fun h => absurd h (by decide)) (fun _ => ?_)
    refine And.intro (fun h => absurd h (by decide)) (fun _ => ?_)
    refine And.intro (fun h => absurd h (by decide)) (fun _ => ?_)
    refine zv_c1 ht rfl rfl (zv_c1 ht rfl rfl ?_)
    refine zv_g3 (q := x) ht rfl hF rfl rfl (zhas_of (htn) rfl) hpx ?_
    refine zv_ei (x := zbo (bt 5 a)) ht rfl rfl (zhas_nc hcx (by decide)) hsx ?_
    refine zv_c1 ht rfl rfl ?_
    refine zv_g3 (q := x) ht rfl hF rfl rfl (zhas_of (htn) rfl) hpx ?_
    refine zv_ei (x := zbo (bt 6 a)) ht rfl rfl (zhas_nc hcx (by decide)) hfx ?_
    refine zv_c1 ht rfl rfl ?_
    refine zv_g3 (q := x) ht rfl hF rfl rfl (zhas_of (htn) rfl) hpx ?_
    refine zv_ei (x := zbo (bt 7 a)) ht rfl rfl (zhas_nc hcx (by decide)) hex ?_
    refine zv_c1 ht rfl rfl ?_
    refine zv_g3 (q := x) ht rfl hF rfl rfl (zhas_of (htn) rfl) hpx ?_
    refine zv_ei (x := zbo (bt 8 a)) ht rfl rfl (zhas_nc hcx (by decide)) hmx ?_
    have C17 : ∀ (pst16 : Outcome × zS → Prop), (pst16 (.returned none, sI (sI (sI (sI (sI (sI (sI (sI (sI (sI S 145 n 4) 147 n 0) 148 n 0) 149 n 0) 150 n (zbo (bt 3 a))) 151 n (zbo (bt 4 a))) 152 n (zbo (bt 5 a))) 153 n (zbo (bt 6 a))) 154 n (zbo (bt 7 a))) 155 n (zbo (bt 8 a)))) → zCall (d - 1) 285 [.ref n, .int (zbo (bt 5 a)), .int (zbo (bt 6 a)), .int (zbo (bt 7 a)), .int (zbo (bt 8 a))] (sI (sI (sI (sI (sI (sI S 145 n 4) 147 n 0) 148 n 0) 149 n 0) 150 n (zbo (bt 3 a))) 151 n (zbo (bt 4 a))) pst16 := by
      intro pst16 k19
      have ht18 : ztab 285 = ztb285 := rfl
      show zEv (d - 1) 285 0 [.ref n, .int (zbo (bt 5 a)), .int (zbo (bt 6 a)), .int (zbo (bt 7 a)), .int (zbo (bt 8 a))] [] (sI (sI (sI (sI (sI (sI S 145 n 4) 147 n 0) 148 n 0) 149 n 0) 150 n (zbo (bt 3 a))) 151 n (zbo (bt 4 a))) pst16
      refine zv_c1 ht18 rfl rfl (zv_c1 ht18 rfl rfl ?_)
      refine zv_ci (S' := sI (sI (sI (sI (sI (sI (sI S 145 n 4) 147 n 0) 148 n 0) 149 n 0) 150 n (zbo (bt 3 a))) 151 n (zbo (bt 4 a))) 152 n (zbo (bt 5 a))) ht18 rfl rfl ⟨⟨(zhas_of (htn) rfl), (show n < gN S from by omega)⟩, zbo_rng⟩ ?_
      refine zv_c1 ht18 rfl rfl (zv_c1 ht18 rfl rfl ?_)
      refine zv_ci (S' := sI (sI (sI (sI (sI (sI (sI (sI S 145 n 4) 147 n 0) 148 n 0) 149 n 0) 150 n (zbo (bt 3 a))) 151 n (zbo (bt 4 a))) 152 n (zbo (bt 5 a))) 153 n (zbo (bt 6 a))) ht18 rfl rfl ⟨⟨(zhas_of (htn) rfl), (show n < gN S from by omega)⟩, zbo_rng⟩ ?_
      refine zv_c1 ht18 rfl rfl (zv_c1 ht18 rfl rfl ?_)
      refine zv_ci (S' := sI (sI (sI (sI (sI (sI (sI (sI (sI S 145 n 4) 147 n 0) 148 n 0) 149 n 0) 150 n (zbo (bt 3 a))) 151 n (zbo (bt 4 a))) 152 n (zbo (bt 5 a))) 153 n (zbo (bt 6 a))) 154 n (zbo (bt 7 a))) ht18 rfl rfl ⟨⟨(zhas_of (htn) rfl), (show n < gN S from by omega)⟩, zbo_rng⟩ ?_
      refine zv_c1 ht18 rfl rfl (zv_c1 ht18 rfl rfl ?_)
      refine zv_ci (S' := sI (sI (sI (sI (sI (sI (sI (sI (sI (sI S 145 n 4) 147 n 0) 148 n 0) 149 n 0) 150 n (zbo (bt 3 a))) 151 n (zbo (bt 4 a))) 152 n (zbo (bt 5 a))) 153 n (zbo (bt 6 a))) 154 n (zbo (bt 7 a))) 155 n (zbo (bt 8 a))) ht18 rfl rfl ⟨⟨(zhas_of (htn) rfl), (show n < gN S from by omega)⟩, zbo_rng⟩ ?_
      exact zv_rt ht18 rfl rfl rfl rfl k19
    refine zv_cl ht rfl rfl rfl (zv_tgv (htn) rfl) (by omega) (Nat.le_of_ble_eq_true rfl) (C17 _ ?_)
    show zEv d 293 379 [.ref n] [] (sI (sI (sI (sI (sI (sI (sI (sI (sI (sI S 145 n 4) 147 n 0) 148 n 0) 149 n 0) 150 n (zbo (bt 3 a))) 151 n (zbo (bt 4 a))) 152 n (zbo (bt 5 a))) 153 n (zbo (bt 6 a))) 154 n (zbo (bt 7 a))) 155 n (zbo (bt 8 a))) post
    refine zv_c1 ht rfl rfl (zv_c1 ht rfl rfl ?_)
    refine zv_g3 (q := x) ht rfl hF rfl rfl (zhas_of (htn) rfl) hpx ?_
    refine zv_c1 ht rfl rfl ?_
    have C21 : ∀ (pst20 : Outcome × zS → Prop), (pst20 (.returned none, sI (sI (sI (sI (sI (sI (sI (sI (sI (sI (sI (sI S 145 n 4) 147 n 0) 148 n 0) 149 n 0) 150 n (zbo (bt 3 a))) 151 n (zbo (bt 4 a))) 152 n (zbo (bt 5 a))) 153 n (zbo (bt 6 a))) 154 n (zbo (bt 7 a))) 155 n (zbo (bt 8 a))) 156 n (zbo (bt 9 a))) 146 n ((0 : Int32) ||| tx))) → zCall (d - 1) 286 [.ref n, .ref x, .int 0] (sI (sI (sI (sI (sI (sI (sI (sI (sI (sI S 145 n 4) 147 n 0) 148 n 0) 149 n 0) 150 n (zbo (bt 3 a))) 151 n (zbo (bt 4 a))) 152 n (zbo (bt 5 a))) 153 n (zbo (bt 6 a))) 154 n (zbo (bt 7 a))) 155 n (zbo (bt 8 a))) pst20 := by
      intro pst20 k27
      have ht22 : ztab 286 = ztb286 := rfl
      show zEv (d - 1) 286 0 [.ref n, .ref x, .int 0] [] (sI (sI (sI (sI (sI (sI (sI (sI (sI (sI S 145 n 4) 147 n 0) 148 n 0) 149 n 0) 150 n (zbo (bt 3 a))) 151 n (zbo (bt 4 a))) 152 n (zbo (bt 5 a))) 153 n (zbo (bt 6 a))) 154 n (zbo (bt 7 a))) 155 n (zbo (bt 8 a))) pst20
      refine zv_c1 ht22 rfl rfl ?_
      refine zv_br ht22 rfl rfl rfl (fun _ => ?_) (fun h => absurd (by decide) h)
      refine zv_c1 ht22 rfl rfl (zv_c1 ht22 rfl rfl ?_)
      refine zv_ei (x := zbo False) ht22 rfl rfl (zhas_of (htn) rfl) hm0 ?_
      refine zv_br ht22 rfl rfl rfl (fun b23 => (b23 ((zbo_eq0 : (zbo False) = 0 ↔ ¬ False).mpr trivial)).elim) (fun b23 => ?_)
      refine zv_c1 ht22 rfl rfl ?_
      refine zv_ei (x := zbo (bt 9 a)) ht22 rfl rfl (zhas_nc hcx (by decide)) hmixedx ?_
      have J25 : zEv (d - 1) 286 73 [.ref n, .ref x, .retAddr 0] [.int (zbo (bt 9 a)), .ref n] (sI (sI (sI (sI (sI (sI (sI (sI (sI (sI S 145 n 4) 147 n 0) 148 n 0) 149 n 0) 150 n (zbo (bt 3 a))) 151 n (zbo (bt 4 a))) 152 n (zbo (bt 5 a))) 153 n (zbo (bt 6 a))) 154 n (zbo (bt 7 a))) 155 n (zbo (bt 8 a))) pst20 := by
        refine zv_ci (S' := sI (sI (sI (sI (sI (sI (sI (sI (sI (sI (sI S 145 n 4) 147 n 0) 148 n 0) 149 n 0) 150 n (zbo (bt 3 a))) 151 n (zbo (bt 4 a))) 152 n (zbo (bt 5 a))) 153 n (zbo (bt 6 a))) 154 n (zbo (bt 7 a))) 155 n (zbo (bt 8 a))) 156 n (zbo (bt 9 a))) ht22 rfl rfl ⟨⟨(zhas_of (htn) rfl), (show n < gN S from by omega)⟩, zbo_rng⟩ ?_
        refine zv_c1 ht22 rfl rfl (zv_c1 ht22 rfl rfl ?_)
        refine zv_ei (x := 0) ht22 rfl rfl (zhas_of (htn) rfl) ht0 ?_
        refine zv_c1 ht22 rfl rfl ?_
        refine zv_ei (x := tx) ht22 rfl rfl (zhas_nc hcx (by decide)) htx ?_
        refine zv_c1 (st' := [.int ((0 : Int32) ||| tx), .ref n]) (S' := sI (sI (sI (sI (sI (sI (sI (sI (sI (sI (sI S 145 n 4) 147 n 0) 148 n 0) 149 n 0) 150 n (zbo (bt 3 a))) 151 n (zbo (bt 4 a))) 152 n (zbo (bt 5 a))) 153 n (zbo (bt 6 a))) 154 n (zbo (bt 7 a))) 155 n (zbo (bt 8 a))) 156 n (zbo (bt 9 a))) ht22 rfl rfl ?_
        refine zv_ci (S' := sI (sI (sI (sI (sI (sI (sI (sI (sI (sI (sI (sI S 145 n 4) 147 n 0) 148 n 0) 149 n 0) 150 n (zbo (bt 3 a))) 151 n (zbo (bt 4 a))) 152 n (zbo (bt 5 a))) 153 n (zbo (bt 6 a))) 154 n (zbo (bt 7 a))) 155 n (zbo (bt 8 a))) 156 n (zbo (bt 9 a))) 146 n ((0 : Int32) ||| tx)) ht22 rfl rfl ⟨(zhas_of (htn) rfl), (show n < gN S from by omega)⟩ ?_
        exact zv_rt ht22 rfl rfl rfl rfl k27
      refine zv_br ht22 rfl rfl rfl (fun b24 => ?_) (fun b24 => ?_)
      · replace b24 : ¬ (bt 9 a) := (zbo_eq0 : (zbo (bt 9 a)) = 0 ↔ ¬ (bt 9 a)).mp b24
        refine zv_c1 ht22 rfl rfl ?_
        exact zEv.wk (L := [.ref n, .ref x, .retAddr 0]) (L' := [.ref n, .ref x, .int 0]) (And.intro (Or.inl rfl) (And.intro (Or.inl rfl) (And.intro (Or.inr rfl) trivial))) (zv_sub (zz := zbo (bt 9 a)) (zy := 0) (p := fun zz => zEv (d - 1) 286 73 [.ref n, .ref x, .retAddr 0] [.int zz, .ref n] (sI (sI (sI (sI (sI (sI (sI (sI (sI (sI S 145 n 4) 147 n 0) 148 n 0) 149 n 0) 150 n (zbo (bt 3 a))) 151 n (zbo (bt 4 a))) 152 n (zbo (bt 5 a))) 153 n (zbo (bt 6 a))) 154 n (zbo (bt 7 a))) 155 n (zbo (bt 8 a))) pst20) (zbo_neg b24) J25)
      · replace b24 : bt 9 a := Classical.byContradiction (fun h => b24 ((zbo_eq0 : (zbo (bt 9 a)) = 0 ↔ ¬ (bt 9 a)).mpr h))
        refine zv_c1 ht22 rfl rfl (zv_c1 ht22 rfl rfl ?_)
        exact zEv.wk (L := [.ref n, .ref x, .retAddr 0]) (L' := [.ref n, .ref x, .int 0]) (And.intro (Or.inl rfl) (And.intro (Or.inl rfl) (And.intro (Or.inr rfl) trivial))) (zv_sub (zz := zbo (bt 9 a)) (zy := 1) (p := fun zz => zEv (d - 1) 286 73 [.ref n, .ref x, .retAddr 0] [.int zz, .ref n] (sI (sI (sI (sI (sI (sI (sI (sI (sI (sI S 145 n 4) 147 n 0) 148 n 0) 149 n 0) 150 n (zbo (bt 3 a))) 151 n (zbo (bt 4 a))) 152 n (zbo (bt 5 a))) 153 n (zbo (bt 6 a))) 154 n (zbo (bt 7 a))) 155 n (zbo (bt 8 a))) pst20) (zbo_pos b24) J25)
    refine zv_cl ht rfl rfl rfl (zv_tgv (htn) rfl) (by omega) (Nat.le_of_ble_eq_true rfl) (C21 _ ?_)
    show zEv d 293 388 [.ref n] [] (sI (sI (sI (sI (sI (sI (sI (sI (sI (sI (sI (sI S 145 n 4) 147 n 0) 148 n 0) 149 n 0) 150 n (zbo (bt 3 a))) 151 n (zbo (bt 4 a))) 152 n (zbo (bt 5 a))) 153 n (zbo (bt 6 a))) 154 n (zbo (bt 7 a))) 155 n (zbo (bt 8 a))) 156 n (zbo (bt 9 a))) 146 n ((0 : Int32) ||| tx)) post
    exact zv_rt ht rfl rfl rfl rfl (h1 b11)
  · replace b11 : ¬ (((p + 1) = 1) ∧ (bt 1 a)) := (zbo_eq0 : (zbo (((p + 1) = 1) ∧ (bt 1 a))) = 0 ↔ ¬ (((p + 1) = 1) ∧ (bt 1 a))).mp (Classical.not_not.mp b11)
    refine zv_c1 ht rfl rfl ?_
    have C29 : ∀ (pst28 : Outcome × zS → Prop), (pst28 (.returned (some (.ref (gN S))), sI (sI (sT (sNew S 8 0 (zslots 8)) (gN S) 8 1) 136 (gN S) 3) 137 (gN S) (gI S 144 n))) → zCall (d - 1) 283 [.ref n] S pst28 := by
      intro pst28 k35
      have ht30 : ztab 283 = ztb283 := rfl
      show zEv (d - 1) 283 0 [.ref n] [] S pst28
      refine zv_ci (st' := [.ref (gN S)]) (S' := sNew S 8 0 (zslots 8)) ht30 rfl rfl (znew_ok (show 1639 ≤ gN S from by omega) (show gN S < 2000000 from by omega)) ?_
      refine zv_c1 ht30 rfl rfl (zv_c1 ht30 rfl rfl (zv_c1 ht30 rfl rfl ?_))
      refine zv_ei (x := gI S 144 n) ht30 rfl rfl (zhas_of (Eq.trans (ztyp_new (S := S) (t := 8) (n := 0) (s := zslots 8) (show n ≠ gN S from by omega)) htn) rfl) (gI_new (S := S) (t := 8) (n := 0) (s := zslots 8) (show n ≠ gN S from by omega)) ?_
      have C32 : ∀ (pst31 : Outcome × zS → Prop), (pst31 (.returned none, sI (sI (sT (sNew S 8 0 (zslots 8)) (gN S) 8 1) 136 (gN S) 3) 137 (gN S) (gI S 144 n))) → zCall ((d - 1) - 1) 269 [.ref (gN S), .int 3, .int (gI S 144 n)] (sNew S 8 0 (zslots 8)) pst31 := by
        intro pst31 k34
        have ht33 : ztab 269 = ztb269 := rfl
        show zEv ((d - 1) - 1) 269 0 [.ref (gN S), .int 3, .int (gI S 144 n)] [] (sNew S 8 0 (zslots 8)) pst31
        refine zv_c1 ht33 rfl rfl ?_
        refine zv_ci (S' := sT (sNew S 8 0 (zslots 8)) (gN S) 8 1) ht33 rfl rfl ⟨ztyp_new_at (S := S) (t := 8) (n := 0) (s := zslots 8) (show 1639 ≤ gN S from by omega), (show gN S < gN S + 1 from by omega), zlen_new_at (S := S) (t := 8) (n := 0) (s := zslots 8) (show 1639 ≤ gN S from by omega)⟩ ?_
        refine zv_c1 ht33 rfl rfl (zv_c1 ht33 rfl rfl ?_)
        refine zv_ci (S' := sI (sT (sNew S 8 0 (zslots 8)) (gN S) 8 1) 136 (gN S) 3) ht33 rfl rfl ⟨⟨(zhas_of (ztyp_sT1 (show 1639 ≤ gN S from by omega)) rfl), (show gN S < gN S + 1 from by omega)⟩, zlen_sT1 (show 1639 ≤ gN S from by omega)⟩ ?_
        refine zv_c1 ht33 rfl rfl (zv_c1 ht33 rfl rfl ?_)
        refine zv_ci (S' := sI (sI (sT (sNew S 8 0 (zslots 8)) (gN S) 8 1) 136 (gN S) 3) 137 (gN S) (gI S 144 n)) ht33 rfl rfl ⟨⟨(zhas_of (ztyp_sT1 (show 1639 ≤ gN S from by omega)) rfl), (show gN S < gN S + 1 from by omega)⟩, zlen_sT1 (show 1639 ≤ gN S from by omega)⟩ ?_
        exact zv_rt ht33 rfl rfl rfl rfl k34
      refine zv_cl ht30 rfl rfl rfl rfl (by omega) (Nat.le_of_ble_eq_true rfl) (C32 _ ?_)
      show zEv (d - 1) 283 12 [.ref n] [.ref (gN S)] (sI (sI (sT (sNew S 8 0 (zslots 8)) (gN S) 8 1) 136 (gN S) 3) 137 (gN S) (gI S 144 n)) pst28
      exact zv_rt ht30 rfl rfl rfl rfl k35
    refine zv_cl ht rfl rfl rfl (zv_tgv (htn) rfl) (by omega) (Nat.le_of_ble_eq_true rfl) (C29 _ ?_)
    show zEv d 293 11 [.ref n] [.ref (gN S)] (sI (sI (sT (sNew S 8 0 (zslots 8)) (gN S) 8 1) 136 (gN S) 3) 137 (gN S) (gI S 144 n)) post
    exact zv_th ht rfl rfl rfl ⟨ztyp_sT1 (show 1639 ≤ gN S from by omega), (show gN S < gN S + 1 from by omega)⟩ rfl (h2 b11)

theorem wj_21 {d : Nat} {S : zS} (hF : zFin true S) (hd : 2 ≤ d) (n x : Nat) (p a tx : Int32) (hn0 : 1639 ≤ n) (hn : n < gN S) (hx : x < gN S) (hxn : x ≠ n) (hcx : zNc (ztyp S x) = true) (hN2 : gN S < 1900000) (htn : ztyp S n = 11) (how : gI S 160 n = Int32.ofNat 99) (hpx : gP S 161 n = some x) (hbx : gI S 145 x = p + 1) (hzx : gI S 147 x = zbo (bt 0 a)) (hox : gI S 148 x = zbo (bt 1 a)) (hnx : gI S 149 x = zbo (bt 2 a)) (hdx : gI S 150 x = zbo (bt 3 a)) (hux : gI S 151 x = zbo (bt 4 a)) (hsx : gI S 152 x = zbo (bt 5 a)) (hfx : gI S 153 x = zbo (bt 6 a)) (hex : gI S 154 x = zbo (bt 7 a)) (hmx : gI S 155 x = zbo (bt 8 a)) (hmixedx : gI S 156 x = zbo (bt 9 a)) (htx : gI S 146 x = tx) (hm0 : gI S 156 n = zbo False) (ht0 : gI S 146 n = 0) {post : Outcome × zS → Prop} (h1 : ((p + 1) = 3) → post (.returned none, sI (sI (sI (sI (sI (sI (sI (sI (sI (sI (sI (sI S 145 n 1) 147 n 0) 148 n (zbo (bt 1 a))) 149 n (zbo (bt 2 a))) 150 n (zbo (bt 3 a))) 151 n 1) 152 n (zbo (bt 5 a))) 153 n (zbo (bt 6 a))) 154 n (zbo (bt 7 a))) 155 n (zbo (bt 8 a))) 156 n (zbo (bt 9 a))) 146 n ((0 : Int32) ||| tx))) (h2 : (¬ ((p + 1) = 3)) → post (.threw (gN S), sI (sI (sT (sNew S 8 0 (zslots 8)) (gN S) 8 1) 136 (gN S) 3) 137 (gN S) (gI S 144 n))) : zCall d 293 [.ref n] S post := by
  have ht : ztab 293 = ztb293 := rfl
  show zEv d 293 0 [.ref n] [] S post
  refine zv_c1 ht rfl rfl ?_
  have C2 : ∀ (pst1 : Outcome × zS → Prop), (pst1 (.returned (some (.int (zbo ((p + 1) = 3)))), S)) → zCall (d - 1) 294 [.ref n] S pst1 := by
    intro pst1 k7
    have ht3 : ztab 294 = ztb294 := rfl
    show zEv (d - 1) 294 0 [.ref n] [] S pst1
    refine zv_c1 ht3 rfl rfl ?_
    refine zv_ei (x := 99) ht3 rfl rfl (zhas_of (htn) rfl) how ?_
    refine zv_sw ht3 rfl rfl rfl rfl rfl ?_
    refine And.intro (fun h => absurd h (by decide)) (fun _ => ?_)
    refine And.intro (fun _ => ?_) (fun h => absurd (by decide) h)
    refine zv_c1 ht3 rfl rfl ?_
    refine zv_g3 (q := x) ht3 rfl hF rfl rfl (zhas_of (htn) rfl) hpx ?_
    refine zv_ei (x := p + 1) ht3 rfl rfl (zhas_nc hcx (by decide)) hbx ?_
    refine zv_c1 ht3 rfl rfl ?_
    have J5 : zEv (d - 1) 294 124 [.retAddr 0] [.int (zbo ((p + 1) = 3))] S pst1 := by
      exact zv_rc ht3 rfl rfl rfl rfl zbo_rng k7
    refine zv_br ht3 rfl rfl rfl (fun b4 => ?_) (fun b4 => ?_)
    · refine zv_c1 ht3 rfl rfl ?_
      exact zEv.wk (L := [.retAddr 0]) (L' := [.ref n]) (And.intro (Or.inr rfl) trivial) (zv_sub (zz := zbo ((p + 1) = 3)) (zy := 0) (p := fun zz => zEv (d - 1) 294 124 [.retAddr 0] [.int zz] S pst1) (zbo_neg b4) J5)
    · replace b4 : (p + 1) = 3 := Classical.not_not.mp b4
      refine zv_c1 ht3 rfl rfl (zv_c1 ht3 rfl rfl ?_)
      exact zEv.wk (L := [.retAddr 0]) (L' := [.ref n]) (And.intro (Or.inr rfl) trivial) (zv_sub (zz := zbo ((p + 1) = 3)) (zy := 1) (p := fun zz => zEv (d - 1) 294 124 [.retAddr 0] [.int zz] S pst1) (zbo_pos b4) J5)
  refine zv_cl ht rfl rfl rfl (zv_tgv (htn) rfl) (by omega) (Nat.le_of_ble_eq_true rfl) (C2 _ ?_)
  show zEv d 293 4 [.ref n] [.int (zbo ((p + 1) = 3))] S post
  refine zv_br ht rfl rfl rfl (fun b8 => ?_) (fun b8 => ?_)
  · replace b8 : (p + 1) = 3 := Classical.byContradiction (fun h => b8 ((zbo_eq0 : (zbo ((p + 1) = 3)) = 0 ↔ ¬ ((p + 1) = 3)).mpr h))
    refine zv_c1 ht rfl rfl ?_
    refine zv_ei (x := 99) ht rfl rfl (zhas_of (htn) rfl) how ?_
    refine zv_sw ht rfl rfl rfl rfl rfl ?_
    refine And.intro (fun h => absurd h (by decide)) (fun _ => ?_)
    refine And.intro (fun _ => ?_) (fun h => absurd (by decide) h)
    refine zv_c1 ht rfl rfl (zv_c1 ht rfl rfl (zv_c1 ht rfl rfl (zv_c1 ht rfl rfl ?_)))
    refine zv_g3 (q := x) ht rfl hF rfl rfl (zhas_of (htn) rfl) hpx ?_
    refine zv_ei (x := zbo (bt 1 a)) ht rfl rfl (zhas_nc hcx (by decide)) hox ?_
    refine zv_c1 ht rfl rfl ?_
    refine zv_g3 (q := x) ht rfl hF rfl rfl (zhas_of (htn) rfl) hpx ?_
    refine zv_ei (x := zbo (bt 2 a)) ht rfl rfl (zhas_nc hcx (by decide)) hnx ?_
    refine zv_c1 ht rfl rfl ?_
    refine zv_g3 (q := x) ht rfl hF rfl rfl (zhas_of (htn) rfl) hpx ?_
    refine zv_ei (x := zbo (bt 3 a)) ht rfl rfl (zhas_nc hcx (by decide)) hdx ?_
    refine zv_c1 ht rfl rfl ?_
    have C10 : ∀ (pst9 : Outcome × zS → Prop), (pst9 (.returned none, sI (sI (sI (sI (sI (sI S 145 n 1) 147 n 0) 148 n (zbo (bt 1 a))) 149 n (zbo (bt 2 a))) 150 n (zbo (bt 3 a))) 151 n 1)) → zCall (d - 1) 284 [.ref n, .int 1, .int 0, .int (zbo (bt 1 a)), .int (zbo (bt 2 a)), .int (zbo (bt 3 a)), .int 1] S pst9 := by
      intro pst9 k12
      have ht11 : ztab 284 = ztb284 := rfl
      show zEv (d - 1) 284 0 [.ref n, .int 1, .int 0, .int (zbo (bt 1 a)), .int (zbo (bt 2 a)), .int (zbo (bt 3 a)), .int 1] [] S pst9
      refine zv_c1 ht11 rfl rfl (zv_c1 ht11 rfl rfl ?_)
      refine zv_ci (S' := sI S 145 n 1) ht11 rfl rfl ⟨(zhas_of (htn) rfl), (show n < gN S from by omega)⟩ ?_
      refine zv_c1 ht11 rfl rfl (zv_c1 ht11 rfl rfl ?_)
      refine zv_ci (S' := sI (sI S 145 n 1) 147 n 0) ht11 rfl rfl ⟨⟨(zhas_of (htn) rfl), (show n < gN S from by omega)⟩, (by decide)⟩ ?_
      refine zv_c1 ht11 rfl rfl (zv_c1 ht11 rfl rfl ?_)
      refine zv_ci (S' := sI (sI (sI S 145 n 1) 147 n 0) 148 n (zbo (bt 1 a))) ht11 rfl rfl ⟨⟨(zhas_of (htn) rfl), (show n < gN S from by omega)⟩, zbo_rng⟩ ?_
      refine zv_c1 ht11 rfl rfl (zv_c1 ht11 rfl rfl ?_)
      refine zv_ci (S' := sI (sI (sI (sI S 145 n 1) 147 n 0) 148 n (zbo (bt 1 a))) 149 n (zbo (bt 2 a))) ht11 rfl rfl ⟨⟨(zhas_of (htn) rfl), (show n < gN S from by omega)⟩, zbo_rng⟩ ?_
      refine zv_c1 ht11 rfl rfl (zv_c1 ht11 rfl rfl ?_)
      refine zv_ci (S' := sI (sI (sI (sI (sI S 145 n 1) 147 n 0) 148 n (zbo (bt 1 a))) 149 n (zbo (bt 2 a))) 150 n (zbo (bt 3 a))) ht11 rfl rfl ⟨⟨(zhas_of (htn) rfl), (show n < gN S from by omega)⟩, zbo_rng⟩ ?_
      refine zv_c1 ht11 rfl rfl (zv_c1 ht11 rfl rfl ?_)
      refine zv_ci (S' := sI (sI (sI (sI (sI (sI S 145 n 1) 147 n 0) 148 n (zbo (bt 1 a))) 149 n (zbo (bt 2 a))) 150 n (zbo (bt 3 a))) 151 n 1) ht11 rfl rfl ⟨⟨(zhas_of (htn) rfl), (show n < gN S from by omega)⟩, (by decide)⟩ ?_
      exact zv_rt ht11 rfl rfl rfl rfl k12
    refine zv_cl ht rfl rfl rfl (zv_tgv (htn) rfl) (by omega) (Nat.le_of_ble_eq_true rfl) (C10 _ ?_)
    show zEv d 293 129 [.ref n] [] (sI (sI (sI (sI (sI (sI S 145 n 1) 147 n 0) 148 n (zbo (bt 1 a))) 149 n (zbo (bt 2 a))) 150 n (zbo (bt 3 a))) 151 n 1) post
    refine zv_c1 ht rfl rfl (zv_c1 ht rfl rfl ?_)
    refine zv_ei (x := 99) ht rfl rfl (zhas_of (htn) rfl) how ?_
    refine zv_sw ht rfl rfl rfl rfl rfl ?_
    refine And.intro (fun h => absurd h (by decide)) (fun _ => ?_)
    refine And.intro (fun h => absurd h (by decide)) (fun _ => ?_)
    refine And.intro (fun h => absurd h (by decide)) (fun _ => ?_)
    refine zv_c1 ht rfl rfl (zv_c1 ht rfl rfl ?_)
    refine zv_g3 (q := x) ht rfl hF rfl rfl (zhas_of (htn) rfl) hpx ?_
    refine zv_ei (x := zbo (bt 5 a)) ht rfl rfl (zhas_nc hcx (by decide)) hsx ?_
    refine zv_c1 ht rfl rfl ?_
    refine zv_g3 (q := x) ht rfl hF rfl rfl (zhas_of (htn) rfl) hpx ?_
    refine zv_ei (x := zbo (bt 6 a)) ht rfl rfl (zhas_nc hcx (by decide)) hfx ?_
    refine zv_c1 ht rfl rfl ?_
    refine zv_g3 (q := x) ht rfl hF rfl rfl (zhas_of (htn) rfl) hpx ?_
    refine zv_ei (x := zbo (bt 7 a)) ht rfl rfl (zhas_nc hcx (by decide)) hex ?_
    refine zv_c1 ht rfl rfl ?_
    refine zv_g3 (q := x) ht rfl hF rfl rfl (zhas_of (htn) rfl) hpx ?_
    refine zv_ei (x := zbo (bt 8 a)) ht rfl rfl (zhas_nc hcx (by decide)) hmx ?_
    have C14 : ∀ (pst13 : Outcome × zS → Prop), (pst13 (.returned none, sI (sI (sI (sI (sI (sI (sI (sI (sI (sI S 145 n 1) 147 n 0) 148 n (zbo (bt 1 a))) 149 n (zbo (bt 2 a))) 150 n (zbo (bt 3 a))) 151 n 1) 152 n (zbo (bt 5 a))) 153 n (zbo (bt 6 a))) 154 n (zbo (bt 7 a))) 155 n (zbo (bt 8 a)))) → zCall (d - 1) 285 [.ref n, .int (zbo (bt 5 a)), .int (zbo (bt 6 a)), .int (zbo (bt 7 a)), .int (zbo (bt 8 a))] (sI (sI (sI (sI (sI (sI S 145 n 1) 147 n 0) 148 n (zbo (bt 1 a))) 149 n (zbo (bt 2 a))) 150 n (zbo (bt 3 a))) 151 n 1) pst13 := by
      intro pst13 k16
      have ht15 : ztab 285 = ztb285 := rfl
      show zEv (d - 1) 285 0 [.ref n, .int (zbo (bt 5 a)), .int (zbo (bt 6 a)), .int (zbo (bt 7 a)), .int (zbo (bt 8 a))] [] (sI (sI (sI (sI (sI (sI S 145 n 1) 147 n 0) 148 n (zbo (bt 1 a))) 149 n (zbo (bt 2 a))) 150 n (zbo (bt 3 a))) 151 n 1) pst13
      refine zv_c1 ht15 rfl rfl (zv_c1 ht15 rfl rfl ?_)
      refine zv_ci (S' := sI (sI (sI (sI (sI (sI (sI S 145 n 1) 147 n 0) 148 n (zbo (bt 1 a))) 149 n (zbo (bt 2 a))) 150 n (zbo (bt 3 a))) 151 n 1) 152 n (zbo (bt 5 a))) ht15 rfl rfl ⟨⟨(zhas_of (htn) rfl), (show n < gN S from by omega)⟩, zbo_rng⟩ ?_
      refine zv_c1 ht15 rfl rfl (zv_c1 ht15 rfl rfl ?_)
      refine zv_ci (S' := sI (sI (sI (sI (sI (sI (sI (sI S 145 n 1) 147 n 0) 148 n (zbo (bt 1 a))) 149 n (zbo (bt 2 a))) 150 n (zbo (bt 3 a))) 151 n 1) 152 n (zbo (bt 5 a))) 153 n (zbo (bt 6 a))) ht15 rfl rfl ⟨⟨(zhas_of (htn) rfl), (show n < gN S from by omega)⟩, zbo_rng⟩ ?_
      refine zv_c1 ht15 rfl rfl (zv_c1 ht15 rfl rfl ?_)
      refine zv_ci (S' := sI (sI (sI (sI (sI (sI (sI (sI (sI S 145 n 1) 147 n 0) 148 n (zbo (bt 1 a))) 149 n (zbo (bt 2 a))) 150 n (zbo (bt 3 a))) 151 n 1) 152 n (zbo (bt 5 a))) 153 n (zbo (bt 6 a))) 154 n (zbo (bt 7 a))) ht15 rfl rfl ⟨⟨(zhas_of (htn) rfl), (show n < gN S from by omega)⟩, zbo_rng⟩ ?_
      refine zv_c1 ht15 rfl rfl (zv_c1 ht15 rfl rfl ?_)
      refine zv_ci (S' := sI (sI (sI (sI (sI (sI (sI (sI (sI (sI S 145 n 1) 147 n 0) 148 n (zbo (bt 1 a))) 149 n (zbo (bt 2 a))) 150 n (zbo (bt 3 a))) 151 n 1) 152 n (zbo (bt 5 a))) 153 n (zbo (bt 6 a))) 154 n (zbo (bt 7 a))) 155 n (zbo (bt 8 a))) ht15 rfl rfl ⟨⟨(zhas_of (htn) rfl), (show n < gN S from by omega)⟩, zbo_rng⟩ ?_
      exact zv_rt ht15 rfl rfl rfl rfl k16
    refine zv_cl ht rfl rfl rfl (zv_tgv (htn) rfl) (by omega) (Nat.le_of_ble_eq_true rfl) (C14 _ ?_)
    show zEv d 293 379 [.ref n] [] (sI (sI (sI (sI (sI (sI (sI (sI (sI (sI S 145 n 1) 147 n 0) 148 n (zbo (bt 1 a))) 149 n (zbo (bt 2 a))) 150 n (zbo (bt 3 a))) 151 n 1) 152 n (zbo (bt 5 a))) 153 n (zbo (bt 6 a))) 154 n (zbo (bt 7 a))) 155 n (zbo (bt 8 a))) post
    refine zv_c1 ht rfl rfl (zv_c1 ht rfl rfl ?_)
    refine zv_g3 (q := x) ht rfl hF rfl rfl (zhas_of (htn) rfl) hpx ?_
    refine zv_c1 ht rfl rfl ?_
    have C18 : ∀ (pst17 : Outcome × zS → Prop), (pst17 (.returned none, sI (sI (sI (sI (sI (sI (sI (sI (sI (sI (sI (sI S 145 n 1) 147 n 0) 148 n (zbo (bt 1 a))) 149 n (zbo (bt 2 a))) 150 n (zbo (bt 3 a))) 151 n 1) 152 n (zbo (bt 5 a))) 153 n (zbo (bt 6 a))) 154 n (zbo (bt 7 a))) 155 n (zbo (bt 8 a))) 156 n (zbo (bt 9 a))) 146 n ((0 : Int32) ||| tx))) → zCall (d - 1) 286 [.ref n, .ref x, .int 0] (sI (sI (sI (sI (sI (sI (sI (sI (sI (sI S 145 n 1) 147 n 0) 148 n (zbo (bt 1 a))) 149 n (zbo (bt 2 a))) 150 n (zbo (bt 3 a))) 151 n 1) 152 n (zbo (bt 5 a))) 153 n (zbo (bt 6 a))) 154 n (zbo (bt 7 a))) 155 n (zbo (bt 8 a))) pst17 := by
      intro pst17 k24
      have ht19 : ztab 286 = ztb286 := rfl
      show zEv (d - 1) 286 0 [.ref n, .ref x, .int 0] [] (sI (sI (sI (sI (sI (sI (sI (sI (sI (sI S 145 n 1) 147 n 0) 148 n (zbo (bt 1 a))) 149 n (zbo (bt 2 a))) 150 n (zbo (bt 3 a))) 151 n 1) 152 n (zbo (bt 5 a))) 153 n (zbo (bt 6 a))) 154 n (zbo (bt 7 a))) 155 n (zbo (bt 8 a))) pst17
      refine zv_c1 ht19 rfl rfl ?_
      refine zv_br ht19 rfl rfl rfl (fun _ => ?_) (fun h => absurd (by decide) h)
      refine zv_c1 ht19 rfl rfl (zv_c1 ht19 rfl rfl ?_)
      refine zv_ei (x := zbo False) ht19 rfl rfl (zhas_of (htn) rfl) hm0 ?_
      refine zv_br ht19 rfl rfl rfl (fun b20 => (b20 ((zbo_eq0 : (zbo False) = 0 ↔ ¬ False).mpr trivial)).elim) (fun b20 => ?_)
      refine zv_c1 ht19 rfl rfl ?_
      refine zv_ei (x := zbo (bt 9 a)) ht19 rfl rfl (zhas_nc hcx (by decide)) hmixedx ?_
      have J22 : zEv (d - 1) 286 73 [.ref n, .ref x, .retAddr 0] [.int (zbo (bt 9 a)), .ref n] (sI (sI (sI (sI (sI (sI (sI (sI (sI (sI S 145 n 1) 147 n 0) 148 n (zbo (bt 1 a))) 149 n (zbo (bt 2 a))) 150 n (zbo (bt 3 a))) 151 n 1) 152 n (zbo (bt 5 a))) 153 n (zbo (bt 6 a))) 154 n (zbo (bt 7 a))) 155 n (zbo (bt 8 a))) pst17 := by
        refine zv_ci (S' := sI (sI (sI (sI (sI (sI (sI (sI (sI (sI (sI S 145 n 1) 147 n 0) 148 n (zbo (bt 1 a))) 149 n (zbo (bt 2 a))) 150 n (zbo (bt 3 a))) 151 n 1) 152 n (zbo (bt 5 a))) 153 n (zbo (bt 6 a))) 154 n (zbo (bt 7 a))) 155 n (zbo (bt 8 a))) 156 n (zbo (bt 9 a))) ht19 rfl rfl ⟨⟨(zhas_of (htn) rfl), (show n < gN S from by omega)⟩, zbo_rng⟩ ?_
        refine zv_c1 ht19 rfl rfl (zv_c1 ht19 rfl rfl ?_)
        refine zv_ei (x := 0) ht19 rfl rfl (zhas_of (htn) rfl) ht0 ?_
        refine zv_c1 ht19 rfl rfl ?_
        refine zv_ei (x := tx) ht19 rfl rfl (zhas_nc hcx (by decide)) htx ?_
        refine zv_c1 (st' := [.int ((0 : Int32) ||| tx), .ref n]) (S' := sI (sI (sI (sI (sI (sI (sI (sI (sI (sI (sI S 145 n 1) 147 n 0) 148 n (zbo (bt 1 a))) 149 n (zbo (bt 2 a))) 150 n (zbo (bt 3 a))) 151 n 1) 152 n (zbo (bt 5 a))) 153 n (zbo (bt 6 a))) 154 n (zbo (bt 7 a))) 155 n (zbo (bt 8 a))) 156 n (zbo (bt 9 a))) ht19 rfl rfl ?_
        refine zv_ci (S' := sI (sI (sI (sI (sI (sI (sI (sI (sI (sI (sI (sI S 145 n 1) 147 n 0) 148 n (zbo (bt 1 a))) 149 n (zbo (bt 2 a))) 150 n (zbo (bt 3 a))) 151 n 1) 152 n (zbo (bt 5 a))) 153 n (zbo (bt 6 a))) 154 n (zbo (bt 7 a))) 155 n (zbo (bt 8 a))) 156 n (zbo (bt 9 a))) 146 n ((0 : Int32) ||| tx)) ht19 rfl rfl ⟨(zhas_of (htn) rfl), (show n < gN S from by omega)⟩ ?_
        exact zv_rt ht19 rfl rfl rfl rfl k24
      refine zv_br ht19 rfl rfl rfl (fun b21 => ?_) (fun b21 => ?_)
      · replace b21 : ¬ (bt 9 a) := (zbo_eq0 : (zbo (bt 9 a)) = 0 ↔ ¬ (bt 9 a)).mp b21
        refine zv_c1 ht19 rfl rfl ?_
        exact zEv.wk (L := [.ref n, .ref x, .retAddr 0]) (L' := [.ref n, .ref x, .int 0]) (And.intro (Or.inl rfl) (And.intro (Or.inl rfl) (And.intro (Or.inr rfl) trivial))) (zv_sub (zz := zbo (bt 9 a)) (zy := 0) (p := fun zz => zEv (d - 1) 286 73 [.ref n, .ref x, .retAddr 0] [.int zz, .ref n] (sI (sI (sI (sI (sI (sI (sI (sI (sI (sI S 145 n 1) 147 n 0) 148 n (zbo (bt 1 a))) 149 n (zbo (bt 2 a))) 150 n (zbo (bt 3 a))) 151 n 1) 152 n (zbo (bt 5 a))) 153 n (zbo (bt 6 a))) 154 n (zbo (bt 7 a))) 155 n (zbo (bt 8 a))) pst17) (zbo_neg b21) J22)
      · replace b21 : bt 9 a := Classical.byContradiction (fun h => b21 ((zbo_eq0 : (zbo (bt 9 a)) = 0 ↔ ¬ (bt 9 a)).mpr h))
        refine zv_c1 ht19 rfl rfl (zv_c1 ht19 rfl rfl ?_)
        exact zEv.wk (L := [.ref n, .ref x, .retAddr 0]) (L' := [.ref n, .ref x, .int 0]) (And.intro (Or.inl rfl) (And.intro (Or.inl rfl) (And.intro (Or.inr rfl) trivial))) (zv_sub (zz := zbo (bt 9 a)) (zy := 1) (p := fun zz => zEv (d - 1) 286 73 [.ref n, .ref x, .retAddr 0] [.int zz, .ref n] (sI (sI (sI (sI (sI (sI (sI (sI (sI (sI S 145 n 1) 147 n 0) 148 n (zbo (bt 1 a))) 149 n (zbo (bt 2 a))) 150 n (zbo (bt 3 a))) 151 n 1) 152 n (zbo (bt 5 a))) 153 n (zbo (bt 6 a))) 154 n (zbo (bt 7 a))) 155 n (zbo (bt 8 a))) pst17) (zbo_pos b21) J22)
    refine zv_cl ht rfl rfl rfl (zv_tgv (htn) rfl) (by omega) (Nat.le_of_ble_eq_true rfl) (C18 _ ?_)
    show zEv d 293 388 [.ref n] [] (sI (sI (sI (sI (sI (sI (sI (sI (sI (sI (sI (sI S 145 n 1) 147 n 0) 148 n (zbo (bt 1 a))) 149 n (zbo (bt 2 a))) 150 n (zbo (bt 3 a))) 151 n 1) 152 n (zbo (bt 5 a))) 153 n (zbo (bt 6 a))) 154 n (zbo (bt 7 a))) 155 n (zbo (bt 8 a))) 156 n (zbo (bt 9 a))) 146 n ((0 : Int32) ||| tx)) post
    exact zv_rt ht rfl rfl rfl rfl (h1 b8)
  · replace b8 : ¬ ((p + 1) = 3) := (zbo_eq0 : (zbo ((p + 1) = 3)) = 0 ↔ ¬ ((p + 1) = 3)).mp (Classical.not_not.mp b8)
    refine zv_c1 ht rfl rfl ?_
    have C26 : ∀ (pst25 : Outcome × zS → Prop), (pst25 (.returned (some (.ref (gN S))), sI (sI (sT (sNew S 8 0 (zslots 8)) (gN S) 8 1) 136 (gN S) 3) 137 (gN S) (gI S 144 n))) → zCall (d - 1) 283 [.ref n] S pst25 := by
      intro pst25 k32
      have ht27 : ztab 283 = ztb283 := rfl
      show zEv (d - 1) 283 0 [.ref n] [] S pst25
      refine zv_ci (st' := [.ref (gN S)]) (S' := sNew S 8 0 (zslots 8)) ht27 rfl rfl (znew_ok (show 1639 ≤ gN S from by omega) (show gN S < 2000000 from by omega)) ?_
      refine zv_c1 ht27 rfl rfl (zv_c1 ht27 rfl rfl (zv_c1 ht27 rfl rfl ?_))
      refine zv_ei (x := gI S 144 n) ht27 rfl rfl (zhas_of (Eq.trans (ztyp_new (S := S) (t := 8) (n := 0) (s := zslots 8) (show n ≠ gN S from by omega)) htn) rfl) (gI_new (S := S) (t := 8) (n := 0) (s := zslots 8) (show n ≠ gN S from by omega)) ?_
      have C29 : ∀ (pst28 : Outcome × zS → Prop), (pst28 (.returned none, sI (sI (sT (sNew S 8 0 (zslots 8)) (gN S) 8 1) 136 (gN S) 3) 137 (gN S) (gI S 144 n))) → zCall ((d - 1) - 1) 269 [.ref (gN S), .int 3, .int (gI S 144 n)] (sNew S 8 0 (zslots 8)) pst28 := by
        intro pst28 k31
        have ht30 : ztab 269 = ztb269 := rfl
        show zEv ((d - 1) - 1) 269 0 [.ref (gN S), .int 3, .int (gI S 144 n)] [] (sNew S 8 0 (zslots 8)) pst28
        refine zv_c1 ht30 rfl rfl ?_
        refine zv_ci (S' := sT (sNew S 8 0 (zslots 8)) (gN S) 8 1) ht30 rfl rfl ⟨ztyp_new_at (S := S) (t := 8) (n := 0) (s := zslots 8) (show 1639 ≤ gN S from by omega), (show gN S < gN S + 1 from by omega), zlen_new_at (S := S) (t := 8) (n := 0) (s := zslots 8) (show 1639 ≤ gN S from by omega)⟩ ?_
        refine zv_c1 ht30 rfl rfl (zv_c1 ht30 rfl rfl ?_)
        refine zv_ci (S' := sI (sT (sNew S 8 0 (zslots 8)) (gN S) 8 1) 136 (gN S) 3) ht30 rfl rfl ⟨⟨(zhas_of (ztyp_sT1 (show 1639 ≤ gN S from by omega)) rfl), (show gN S < gN S + 1 from by omega)⟩, zlen_sT1 (show 1639 ≤ gN S from by omega)⟩ ?_
        refine zv_c1 ht30 rfl rfl (zv_c1 ht30 rfl rfl ?_)
        refine zv_ci (S' := sI (sI (sT (sNew S 8 0 (zslots 8)) (gN S) 8 1) 136 (gN S) 3) 137 (gN S) (gI S 144 n)) ht30 rfl rfl ⟨⟨(zhas_of (ztyp_sT1 (show 1639 ≤ gN S from by omega)) rfl), (show gN S < gN S + 1 from by omega)⟩, zlen_sT1 (show 1639 ≤ gN S from by omega)⟩ ?_
        exact zv_rt ht30 rfl rfl rfl rfl k31
      refine zv_cl ht27 rfl rfl rfl rfl (by omega) (Nat.le_of_ble_eq_true rfl) (C29 _ ?_)
      show zEv (d - 1) 283 12 [.ref n] [.ref (gN S)] (sI (sI (sT (sNew S 8 0 (zslots 8)) (gN S) 8 1) 136 (gN S) 3) 137 (gN S) (gI S 144 n)) pst25
      exact zv_rt ht27 rfl rfl rfl rfl k32
    refine zv_cl ht rfl rfl rfl (zv_tgv (htn) rfl) (by omega) (Nat.le_of_ble_eq_true rfl) (C26 _ ?_)
    show zEv d 293 11 [.ref n] [.ref (gN S)] (sI (sI (sT (sNew S 8 0 (zslots 8)) (gN S) 8 1) 136 (gN S) 3) 137 (gN S) (gI S 144 n)) post
    exact zv_th ht rfl rfl rfl ⟨ztyp_sT1 (show 1639 ≤ gN S from by omega), (show gN S < gN S + 1 from by omega)⟩ rfl (h2 b8)

theorem wj_22 {d : Nat} {S : zS} (hF : zFin true S) (hd : 2 ≤ d) (n x : Nat) (p a tx : Int32) (hn0 : 1639 ≤ n) (hn : n < gN S) (hx : x < gN S) (hxn : x ≠ n) (hcx : zNc (ztyp S x) = true) (hN2 : gN S < 1900000) (htn : ztyp S n = 11) (how : gI S 160 n = Int32.ofNat 100) (hpx : gP S 161 n = some x) (hbx : gI S 145 x = p + 1) (hzx : gI S 147 x = zbo (bt 0 a)) (hox : gI S 148 x = zbo (bt 1 a)) (hnx : gI S 149 x = zbo (bt 2 a)) (hdx : gI S 150 x = zbo (bt 3 a)) (hux : gI S 151 x = zbo (bt 4 a)) (hsx : gI S 152 x = zbo (bt 5 a)) (hfx : gI S 153 x = zbo (bt 6 a)) (hex : gI S 154 x = zbo (bt 7 a)) (hmx : gI S 155 x = zbo (bt 8 a)) (hmixedx : gI S 156 x = zbo (bt 9 a)) (htx : gI S 146 x = tx) (hm0 : gI S 156 n = zbo False) (ht0 : gI S 146 n = 0) {post : Outcome × zS → Prop} (h1 : (((p + 1) = 2) ∧ (bt 0 a)) → post (.returned none, sI (sI (sI (sI (sI (sI (sI (sI (sI (sI (sI (sI S 145 n 1) 147 n 0) 148 n 1) 149 n 1) 150 n 1) 151 n 0) 152 n (zbo (bt 5 a))) 153 n 0) 154 n 1) 155 n (zbo (bt 8 a))) 156 n (zbo (bt 9 a))) 146 n ((0 : Int32) ||| tx))) (h2 : (¬ (((p + 1) = 2) ∧ (bt 0 a))) → post (.threw (gN S), sI (sI (sT (sNew S 8 0 (zslots 8)) (gN S) 8 1) 136 (gN S) 3) 137 (gN S) (gI S 144 n))) : zCall d 293 [.ref n] S post := by
  have ht : ztab 293 = ztb293 := rfl
  show zEv d 293 0 [.ref n] [] S post
  refine zv_c1 ht rfl rfl ?_
  have C2 : ∀ (pst1 : Outcome × zS → Prop), (pst1 (.returned (some (.int (zbo (((p + 1) = 2) ∧ (bt 0 a))))), S)) → zCall (d - 1) 294 [.ref n] S pst1 := by
    intro pst1 k10
    have ht3 : ztab 294 = ztb294 := rfl
    show zEv (d - 1) 294 0 [.ref n] [] S pst1
    refine zv_c1 ht3 rfl rfl ?_
    refine zv_ei (x := 100) ht3 rfl rfl (zhas_of (htn) rfl) how ?_
    refine zv_sw ht3 rfl rfl rfl rfl rfl ?_
    refine And.intro (fun h => absurd h (by decide)) (fun _ => ?_)
    refine And.intro (fun h => absurd h (by decide)) (fun _ => ?_)
    refine And.intro (fun _ => ?_) (fun h => absurd (by decide) h)
    refine zv_c1 ht3 rfl rfl ?_
    refine zv_g3 (q := x) ht3 rfl hF rfl rfl (zhas_of (htn) rfl) hpx ?_
    refine zv_ei (x := p + 1) ht3 rfl rfl (zhas_nc hcx (by decide)) hbx ?_
    refine zv_c1 ht3 rfl rfl ?_
    have J8 : zEv (d - 1) 294 151 [.retAddr 0] [.int (zbo (((p + 1) = 2) ∧ (bt 0 a)))] S pst1 := by
      exact zv_rc ht3 rfl rfl rfl rfl zbo_rng k10
    have J6 : ((¬ ((p + 1) = 2)) ∨ (¬ (bt 0 a))) → zEv (d - 1) 294 150 [.retAddr 0] [] S pst1 := by
      intro b7
      refine zv_c1 ht3 rfl rfl ?_
      exact (zv_sub (zz := zbo (((p + 1) = 2) ∧ (bt 0 a))) (zy := 0) (p := fun zz => zEv (d - 1) 294 151 [.retAddr 0] [.int zz] S pst1) (zbo_neg (b7.elim (fun y1 => (fun h => y1 h.1)) (fun y1 => (fun h => y1 h.2)))) J8)
    refine zv_br ht3 rfl rfl rfl (fun b4 => ?_) (fun b4 => ?_)
    · exact zEv.wk (L := [.retAddr 0]) (L' := [.ref n]) (And.intro (Or.inr rfl) trivial) (J6 (Or.inl b4))
    · replace b4 : (p + 1) = 2 := Classical.not_not.mp b4
      refine zv_c1 ht3 rfl rfl ?_
      refine zv_g3 (q := x) ht3 rfl hF rfl rfl (zhas_of (htn) rfl) hpx ?_
      refine zv_ei (x := zbo (bt 0 a)) ht3 rfl rfl (zhas_nc hcx (by decide)) hzx ?_
      refine zv_br ht3 rfl rfl rfl (fun b5 => ?_) (fun b5 => ?_)
      · replace b5 : ¬ (bt 0 a) := (zbo_eq0 : (zbo (bt 0 a)) = 0 ↔ ¬ (bt 0 a)).mp b5
        exact zEv.wk (L := [.retAddr 0]) (L' := [.ref n]) (And.intro (Or.inr rfl) trivial) (J6 (Or.inr b5))
      · replace b5 : bt 0 a := Classical.byContradiction (fun h => b5 ((zbo_eq0 : (zbo (bt 0 a)) = 0 ↔ ¬ (bt 0 a)).mpr h))
        refine zv_c1 ht3 rfl rfl (zv_c1 ht3 rfl rfl ?_)
        exact zEv.wk (L := [.retAddr 0]) (L' := [.ref n]) (And.intro (Or.inr rfl) trivial) (zv_sub (zz := zbo (((p + 1) = 2) ∧ (bt 0 a))) (zy := 1) (p := fun zz => zEv (d - 1) 294 151 [.retAddr 0] [.int zz] S pst1) (zbo_pos ⟨b4, b5⟩) J8)
  refine zv_cl ht rfl rfl rfl (zv_tgv (htn) rfl) (by omega) (Nat.le_of_ble_eq_true rfl) (C2 _ ?_)
  show zEv d 293 4 [.ref n] [.int (zbo (((p + 1) = 2) ∧ (bt 0 a)))] S post
  refine zv_br ht rfl rfl rfl (fun b11 => ?_) (fun b11 => ?_)
  · replace b11 : ((p + 1) = 2) ∧ (bt 0 a) := Classical.byContradiction (fun h => b11 ((zbo_eq0 : (zbo (((p + 1) = 2) ∧ (bt 0 a))) = 0 ↔ ¬ (((p + 1) = 2) ∧ (bt 0 a))).mpr h))
    refine zv_c1 ht rfl rfl ?_
    refine zv_ei (x := 100) ht rfl rfl (zhas_of (htn) rfl) how ?_
    refine zv_sw ht rfl rfl rfl rfl rfl ?_
    refine And.intro (fun h => absurd h (by decide)) (fun _ => ?_)
    refine And.intro (fun h => absurd h (by decide)) (fun _ => ?_)
    refine And.intro (fun _ => ?_) (fun h => absurd (by decide) h)
    refine zv_c1 ht rfl rfl (zv_c1 ht rfl rfl (zv_c1 ht rfl rfl (zv_c1 ht rfl rfl (zv_c1 ht rfl rfl (zv_c1 ht rfl rfl (zv_c1 ht rfl rfl ?_))))))
    have C13 : ∀ (pst12 : Outcome × zS → Prop), (pst12 (.returned none, sI (sI (sI (sI (sI (sI S 145 n 1) 147 n 0) 148 n 1) 149 n 1) 150 n 1) 151 n 0)) → zCall (d - 1) 284 [.ref n, .int 1, .int 0, .int 1, .int 1, .int 1, .int 0] S pst12 := by
      intro pst12 k15
      have ht14 : ztab 284 = ztb284 := rfl
      show zEv (d - 1) 284 0 [.ref n, .int 1, .int 0, .int 1, .int 1, .int 1, .int 0] [] S pst12
      refine zv_c1 ht14 rfl rfl (zv_c1 ht14 rfl rfl ?_)
      refine zv_ci (S' := sI S 145 n 1) ht14 rfl rfl ⟨(zhas_of (htn) rfl), (show n < gN S from by omega)⟩ ?_
      refine zv_c1 ht14 rfl rfl (zv_c1 ht14 rfl rfl ?_)
      refine zv_ci (S' := sI (sI S 145 n 1) 147 n 0) ht14 rfl rfl ⟨⟨(zhas_of (htn) rfl), (show n < gN S from by omega)⟩, (by decide)⟩ ?_
      refine zv_c1 ht14 rfl rfl (zv_c1 ht14 rfl rfl ?_)
      refine zv_ci (S' := sI (sI (sI S 145 n 1) 147 n 0) 148 n 1) ht14 rfl rfl ⟨⟨(zhas_of (htn) rfl), (show n < gN S from by omega)⟩, (by decide)⟩ ?_
      refine zv_c1 ht14 rfl rfl (zv_c1 ht14 rfl rfl ?_)
      refine zv_ci (S' := sI (sI (sI (sI S 145 n 1) 147 n 0) 148 n 1) 149 n 1) ht14 rfl rfl ⟨⟨(zhas_of (htn) rfl), (show n < gN S from by omega)⟩, (by decide)⟩ ?_
      refine zv_c1 ht14 rfl rfl (zv_c1 ht14 rfl rfl ?_)
      refine zv_ci (S' := sI (sI (sI (sI (sI S 145 n 1) 147 n 0) 148 n 1) 149 n 1) 150 n 1) ht14 rfl rfl ⟨⟨(zhas_of (htn) rfl), (show n < gN S from by omega)⟩, (by decide)⟩ ?_
      refine zv_c1 ht14 rfl rfl (zv_c1 ht14 rfl rfl ?_)
      refine zv_ci (S' := sI (sI (sI (sI (sI (sI S 145 n 1) 147 n 0) 148 n 1) 149 n 1) 150 n 1) 151 n 0) ht14 rfl rfl ⟨⟨(zhas_of (htn) rfl), (show n < gN S from by omega)⟩, (by decide)⟩ ?_
      exact zv_rt ht14 rfl rfl rfl rfl k15
    refine zv_cl ht rfl rfl rfl (zv_tgv (htn) rfl) (by omega) (Nat.le_of_ble_eq_true rfl) (C13 _ ?_)
    show zEv d 293 142 [.ref n] [] (sI (sI (sI (sI (sI (sI S 145 n 1) 147 n 0) 148 n 1) 149 n 1) 150 n 1) 151 n 0) post
    refine zv_c1 ht rfl rfl (zv_c1 ht rfl rfl ?_)
    refine zv_ei (x := 100) ht rfl rfl (zhas_of (htn) rfl) how ?_
    refine zv_sw ht rfl rfl rfl rfl rfl ?_
    refine And.intro (fun _ => ?_) (fun h => absurd (by decide) h)
    refine zv_c1 ht rfl rfl (zv_c1 ht rfl rfl ?_)
    refine zv_g3 (q := x) ht rfl hF rfl rfl (zhas_of (htn) rfl) hpx ?_
    refine zv_ei (x := zbo (bt 5 a)) ht rfl rfl (zhas_nc hcx (by decide)) hsx ?_
    refine zv_c1 ht rfl rfl (zv_c1 ht rfl rfl (zv_c1 ht rfl rfl ?_))
    refine zv_g3 (q := x) ht rfl hF rfl rfl (zhas_of (htn) rfl) hpx ?_
    refine zv_ei (x := zbo (bt 8 a)) ht rfl rfl (zhas_nc hcx (by decide)) hmx ?_
    have C17 : ∀ (pst16 : Outcome × zS → Prop), (pst16 (.returned none, sI (sI (sI (sI (sI (sI (sI (sI (sI (sI S 145 n 1) 147 n 0) 148 n 1) 149 n 1) 150 n 1) 151 n 0) 152 n (zbo (bt 5 a))) 153 n 0) 154 n 1) 155 n (zbo (bt 8 a)))) → zCall (d - 1) 285 [.ref n, .int (zbo (bt 5 a)), .int 0, .int 1, .int (zbo (bt 8 a))] (sI (sI (sI (sI (sI (sI S 145 n 1) 147 n 0) 148 n 1) 149 n 1) 150 n 1) 151 n 0) pst16 := by
      intro pst16 k19
      have ht18 : ztab 285 = ztb285 := rfl
      show zEv (d - 1) 285 0 [.ref n, .int (zbo (bt 5 a)), .int 0, .int 1, .int (zbo (bt 8 a))] [] (sI (sI (sI (sI (sI (sI S 145 n 1) 147 n 0) 148 n 1) 149 n 1) 150 n 1) 151 n 0) pst16
      refine zv_c1 ht18 rfl rfl (zv_c1 ht18 rfl rfl ?_)
      refine zv_ci (S' := sI (sI (sI (sI (sI (sI (sI S 145 n 1) 147 n 0) 148 n 1) 149 n 1) 150 n 1) 151 n 0) 152 n (zbo (bt 5 a))) ht18 rfl rfl ⟨⟨(zhas_of (htn) rfl), (show n < gN S from by omega)⟩, zbo_rng⟩ ?_
      refine zv_c1 ht18 rfl rfl (zv_c1 ht18 rfl rfl ?_)
      refine zv_ci (S' := sI (sI (sI (sI (sI (sI (sI (sI S 145 n 1) 147 n 0) 148 n 1) 149 n 1) 150 n 1) 151 n 0) 152 n (zbo (bt 5 a))) 153 n 0) ht18 rfl rfl ⟨⟨(zhas_of (htn) rfl), (show n < gN S from by omega)⟩, (by decide)⟩ ?_
      refine zv_c1 ht18 rfl rfl (zv_c1 ht18 rfl rfl ?_)
      refine zv_ci (S' := sI (sI (sI (sI (sI (sI (sI (sI (sI S 145 n 1) 147 n 0) 148 n 1) 149 n 1) 150 n 1) 151 n 0) 152 n (zbo (bt 5 a))) 153 n 0) 154 n 1) ht18 rfl rfl ⟨⟨(zhas_of (htn) rfl), (show n < gN S from by omega)⟩, (by decide)⟩ ?_
      refine zv_c1 ht18 rfl rfl (zv_c1 ht18 rfl rfl ?_)
      refine zv_ci (S' := sI (sI (sI (sI (sI (sI (sI (sI (sI (sI S 145 n 1) 147 n 0) 148 n 1) 149 n 1) 150 n 1) 151 n 0) 152 n (zbo (bt 5 a))) 153 n 0) 154 n 1) 155 n (zbo (bt 8 a))) ht18 rfl rfl ⟨⟨(zhas_of (htn) rfl), (show n < gN S from by omega)⟩, zbo_rng⟩ ?_
      exact zv_rt ht18 rfl rfl rfl rfl k19
    refine zv_cl ht rfl rfl rfl (zv_tgv (htn) rfl) (by omega) (Nat.le_of_ble_eq_true rfl) (C17 _ ?_)
    show zEv d 293 292 [.ref n] [] (sI (sI (sI (sI (sI (sI (sI (sI (sI (sI S 145 n 1) 147 n 0) 148 n 1) 149 n 1) 150 n 1) 151 n 0) 152 n (zbo (bt 5 a))) 153 n 0) 154 n 1) 155 n (zbo (bt 8 a))) post
    refine zv_c1 ht rfl rfl (zv_c1 ht rfl rfl (zv_c1 ht rfl rfl ?_))
    refine zv_g3 (q := x) ht rfl hF rfl rfl (zhas_of (htn) rfl) hpx ?_
    refine zv_c1 ht rfl rfl ?_
    have C21 : ∀ (pst20 : Outcome × zS → Prop), (pst20 (.returned none, sI (sI (sI (sI (sI (sI (sI (sI (sI (sI (sI (sI S 145 n 1) 147 n 0) 148 n 1) 149 n 1) 150 n 1) 151 n 0) 152 n (zbo (bt 5 a))) 153 n 0) 154 n 1) 155 n (zbo (bt 8 a))) 156 n (zbo (bt 9 a))) 146 n ((0 : Int32) ||| tx))) → zCall (d - 1) 286 [.ref n, .ref x, .int 0] (sI (sI (sI (sI (sI (sI (sI (sI (sI (sI S 145 n 1) 147 n 0) 148 n 1) 149 n 1) 150 n 1) 151 n 0) 152 n (zbo (bt 5 a))) 153 n 0) 154 n 1) 155 n (zbo (bt 8 a))) pst20 := by
      intro pst20 k27
      have ht22 : ztab 286 = ztb286 := rfl
      show zEv (d - 1) 286 0 [.ref n, .ref x, .int 0] [] (sI (sI (sI (sI (sI (sI (sI (sI (sI (sI S 145 n 1) 147 n 0) 148 n 1) 149 n 1) 150 n 1) 151 n 0) 152 n (zbo (bt 5 a))) 153 n 0) 154 n 1) 155 n (zbo (bt 8 a))) pst20
      refine zv_c1 ht22 rfl rfl ?_
      refine zv_br ht22 rfl rfl rfl (fun _ => ?_) (fun h => absurd (by decide) h)
      refine zv_c1 ht22 rfl rfl (zv_c1 ht22 rfl rfl ?_)
      refine zv_ei (x := zbo False) ht22 rfl rfl (zhas_of (htn) rfl) hm0 ?_
      refine zv_br ht22 rfl rfl rfl (fun b23 => (b23 ((zbo_eq0 : (zbo False) = 0 ↔ ¬ False).mpr trivial)).elim) (fun b23 => ?_)
      refine zv_c1 ht22 rfl rfl ?_
      refine zv_ei (x := zbo (bt 9 a)) ht22 rfl rfl (zhas_nc hcx (by decide)) hmixedx ?_
      have J25 : zEv (d - 1) 286 73 [.ref n, .ref x, .retAddr 0] [.int (zbo (bt 9 a)), .ref n] (sI (sI (sI (sI (sI (sI (sI (sI (sI (sI S 145 n 1) 147 n 0) 148 n 1) 149 n 1) 150 n 1) 151 n 0) 152 n (zbo (bt 5 a))) 153 n 0) 154 n 1) 155 n (zbo (bt 8 a))) pst20 := by
        refine zv_ci (S' := sI (sI (sI (sI (sI (sI (sI (sI (sI (sI (sI S 145 n 1) 147 n 0) 148 n 1) 149 n 1) 150 n 1) 151 n 0) 152 n (zbo (bt 5 a))) 153 n 0) 154 n 1) 155 n (zbo (bt 8 a))) 156 n (zbo (bt 9 a))) ht22 rfl rfl ⟨⟨(zhas_of (htn) rfl), (show n < gN S from by omega)⟩, zbo_rng⟩ ?_
        refine zv_c1 ht22 rfl rfl (zv_c1 ht22 rfl rfl ?_)
        refine zv_ei (x := 0) ht22 rfl rfl (zhas_of (htn) rfl) ht0 ?_
        refine zv_c1 ht22 rfl rfl ?_
        refine zv_ei (x := tx) ht22 rfl rfl (zhas_nc hcx (by decide)) htx ?_
        refine zv_c1 (st' := [.int ((0 : Int32) ||| tx), .ref n]) (S' := sI (sI (sI (sI (sI (sI (sI (sI (sI (sI (sI S 145 n 1) 147 n 0) 148 n 1) 149 n 1) 150 n 1) 151 n 0) 152 n (zbo (bt 5 a))) 153 n 0) 154 n 1) 155 n (zbo (bt 8 a))) 156 n (zbo (bt 9 a))) ht22 rfl rfl ?_
        refine zv_ci (S' := sI (sI (sI (sI (sI (sI (sI (sI (sI (sI (sI (sI S 145 n 1) 147 n 0) 148 n 1) 149 n 1) 150 n 1) 151 n 0) 152 n (zbo (bt 5 a))) 153 n 0) 154 n 1) 155 n (zbo (bt 8 a))) 156 n (zbo (bt 9 a))) 146 n ((0 : Int32) ||| tx)) ht22 rfl rfl ⟨(zhas_of (htn) rfl), (show n < gN S from by omega)⟩ ?_
        exact zv_rt ht22 rfl rfl rfl rfl k27
      refine zv_br ht22 rfl rfl rfl (fun b24 => ?_) (fun b24 => ?_)
      · replace b24 : ¬ (bt 9 a) := (zbo_eq0 : (zbo (bt 9 a)) = 0 ↔ ¬ (bt 9 a)).mp b24
        refine zv_c1 ht22 rfl rfl ?_
        exact zEv.wk (L := [.ref n, .ref x, .retAddr 0]) (L' := [.ref n, .ref x, .int 0]) (And.intro (Or.inl rfl) (And.intro (Or.inl rfl) (And.intro (Or.inr rfl) trivial))) (zv_sub (zz := zbo (bt 9 a)) (zy := 0) (p := fun zz => zEv (d - 1) 286 73 [.ref n, .ref x, .retAddr 0] [.int zz, .ref n] (sI (sI (sI (sI (sI (sI (sI (sI (sI (sI S 145 n 1) 147 n 0) 148 n 1) 149 n 1) 150 n 1) 151 n 0) 152 n (zbo (bt 5 a))) 153 n 0) 154 n 1) 155 n (zbo (bt 8 a))) pst20) (zbo_neg b24) J25)
      · replace b24 : bt 9 a := Classical.byContradiction (fun h => b24 ((zbo_eq0 : (zbo (bt 9 a)) = 0 ↔ ¬ (bt 9 a)).mpr h))
        refine zv_c1 ht22 rfl rfl (zv_c1 ht22 rfl rfl ?_)
        exact zEv.wk (L := [.ref n, .ref x, .retAddr 0]) (L' := [.ref n, .ref x, .int 0]) (And.intro (Or.inl rfl) (And.intro (Or.inl rfl) (And.intro (Or.inr rfl) trivial))) (zv_sub (zz := zbo (bt 9 a)) (zy := 1) (p := fun zz => zEv (d - 1) 286 73 [.ref n, .ref x, .retAddr 0] [.int zz, .ref n] (sI (sI (sI (sI (sI (sI (sI (sI (sI (sI S 145 n 1) 147 n 0) 148 n 1) 149 n 1) 150 n 1) 151 n 0) 152 n (zbo (bt 5 a))) 153 n 0) 154 n 1) 155 n (zbo (bt 8 a))) pst20) (zbo_pos b24) J25)
    refine zv_cl ht rfl rfl rfl (zv_tgv (htn) rfl) (by omega) (Nat.le_of_ble_eq_true rfl) (C21 _ ?_)
    show zEv d 293 388 [.ref n] [] (sI (sI (sI (sI (sI (sI (sI (sI (sI (sI (sI (sI S 145 n 1) 147 n 0) 148 n 1) 149 n 1) 150 n 1) 151 n 0) 152 n (zbo (bt 5 a))) 153 n 0) 154 n 1) 155 n (zbo (bt 8 a))) 156 n (zbo (bt 9 a))) 146 n ((0 : Int32) ||| tx)) post
    exact zv_rt ht rfl rfl rfl rfl (h1 b11)
  · replace b11 : ¬ (((p + 1) = 2) ∧ (bt 0 a)) := (zbo_eq0 : (zbo (((p + 1) = 2) ∧ (bt 0 a))) = 0 ↔ ¬ (((p + 1) = 2) ∧ (bt 0 a))).mp (Classical.not_not.mp b11)
    refine zv_c1 ht rfl rfl ?_
    have C29 : ∀ (pst28 : Outcome × zS → Prop), (pst28 (.returned (some (.ref (gN S))), sI (sI (sT (sNew S 8 0 (zslots 8)) (gN S) 8 1) 136 (gN S) 3) 137 (gN S) (gI S 144 n))) → zCall (d - 1) 283 [.ref n] S pst28 := by
      intro pst28 k35
      have ht30 : ztab 283 = ztb283 := rfl
      show zEv (d - 1) 283 0 [.ref n] [] S pst28
      refine zv_ci (st' := [.ref (gN S)]) (S' := sNew S 8 0 (zslots 8)) ht30 rfl rfl (znew_ok (show 1639 ≤ gN S from by omega) (show gN S < 2000000 from by omega)) ?_
      refine zv_c1 ht30 rfl rfl (zv_c1 ht30 rfl rfl (zv_c1 ht30 rfl rfl ?_))
      refine zv_ei (x := gI S 144 n) ht30 rfl rfl (zhas_of (Eq.trans (ztyp_new (S := S) (t := 8) (n := 0) (s := zslots 8) (show n ≠ gN S from by omega)) htn) rfl) (gI_new (S := S) (t := 8) (n := 0) (s := zslots 8) (show n ≠ gN S from by omega)) ?_
      have C32 : ∀ (pst31 : Outcome × zS → Prop), (pst31 (.returned none, sI (sI (sT (sNew S 8 0 (zslots 8)) (gN S) 8 1) 136 (gN S) 3) 137 (gN S) (gI S 144 n))) → zCall ((d - 1) - 1) 269 [.ref (gN S), .int 3, .int (gI S 144 n)] (sNew S 8 0 (zslots 8)) pst31 := by
        intro pst31 k34
        have ht33 : ztab 269 = ztb269 := rfl
        show zEv ((d - 1) - 1) 269 0 [.ref (gN S), .int 3, .int (gI S 144 n)] [] (sNew S 8 0 (zslots 8)) pst31
        refine zv_c1 ht33 rfl rfl ?_
        refine zv_ci (S' := sT (sNew S 8 0 (zslots 8)) (gN S) 8 1) ht33 rfl rfl ⟨ztyp_new_at (S := S) (t := 8) (n := 0) (s := zslots 8) (show 1639 ≤ gN S from by omega), (show gN S < gN S + 1 from by omega), zlen_new_at (S := S) (t := 8) (n := 0) (s := zslots 8) (show 1639 ≤ gN S from by omega)⟩ ?_
        refine zv_c1 ht33 rfl rfl (zv_c1 ht33 rfl rfl ?_)
        refine zv_ci (S' := sI (sT (sNew S 8 0 (zslots 8)) (gN S) 8 1) 136 (gN S) 3) ht33 rfl rfl ⟨⟨(zhas_of (ztyp_sT1 (show 1639 ≤ gN S from by omega)) rfl), (show gN S < gN S + 1 from by omega)⟩, zlen_sT1 (show 1639 ≤ gN S from by omega)⟩ ?_
        refine zv_c1 ht33 rfl rfl (zv_c1 ht33 rfl rfl ?_)
        refine zv_ci (S' := sI (sI (sT (sNew S 8 0 (zslots 8)) (gN S) 8 1) 136 (gN S) 3) 137 (gN S) (gI S 144 n)) ht33 rfl rfl ⟨⟨(zhas_of (ztyp_sT1 (show 1639 ≤ gN S from by omega)) rfl), (show gN S < gN S + 1 from by omega)⟩, zlen_sT1 (show 1639 ≤ gN S from by omega)⟩ ?_
        exact zv_rt ht33 rfl rfl rfl rfl k34
      refine zv_cl ht30 rfl rfl rfl rfl (by omega) (Nat.le_of_ble_eq_true rfl) (C32 _ ?_)
      show zEv (d - 1) 283 12 [.ref n] [.ref (gN S)] (sI (sI (sT (sNew S 8 0 (zslots 8)) (gN S) 8 1) 136 (gN S) 3) 137 (gN S) (gI S 144 n)) pst28
      exact zv_rt ht30 rfl rfl rfl rfl k35
    refine zv_cl ht rfl rfl rfl (zv_tgv (htn) rfl) (by omega) (Nat.le_of_ble_eq_true rfl) (C29 _ ?_)
    show zEv d 293 11 [.ref n] [.ref (gN S)] (sI (sI (sT (sNew S 8 0 (zslots 8)) (gN S) 8 1) 136 (gN S) 3) 137 (gN S) (gI S 144 n)) post
    exact zv_th ht rfl rfl rfl ⟨ztyp_sT1 (show 1639 ≤ gN S from by omega), (show gN S < gN S + 1 from by omega)⟩ rfl (h2 b11)

theorem wj_23 {d : Nat} {S : zS} (hF : zFin true S) (hd : 2 ≤ d) (n x : Nat) (p a tx : Int32) (hn0 : 1639 ≤ n) (hn : n < gN S) (hx : x < gN S) (hxn : x ≠ n) (hcx : zNc (ztyp S x) = true) (hN2 : gN S < 1900000) (htn : ztyp S n = 11) (how : gI S 160 n = Int32.ofNat 118) (hpx : gP S 161 n = some x) (hbx : gI S 145 x = p + 1) (hzx : gI S 147 x = zbo (bt 0 a)) (hox : gI S 148 x = zbo (bt 1 a)) (hnx : gI S 149 x = zbo (bt 2 a)) (hdx : gI S 150 x = zbo (bt 3 a)) (hux : gI S 151 x = zbo (bt 4 a)) (hsx : gI S 152 x = zbo (bt 5 a)) (hfx : gI S 153 x = zbo (bt 6 a)) (hex : gI S 154 x = zbo (bt 7 a)) (hmx : gI S 155 x = zbo (bt 8 a)) (hmixedx : gI S 156 x = zbo (bt 9 a)) (htx : gI S 146 x = tx) (hm0 : gI S 156 n = zbo False) (ht0 : gI S 146 n = 0) {post : Outcome × zS → Prop} (h1 : ((p + 1) = 1) → post (.returned none, sI (sI (sI (sI (sI (sI (sI (sI (sI (sI (sI (sI S 145 n 2) 147 n (zbo (bt 0 a))) 148 n (zbo (bt 1 a))) 149 n (zbo (bt 2 a))) 150 n 0) 151 n 0) 152 n (zbo (bt 5 a))) 153 n 1) 154 n 0) 155 n (zbo (bt 8 a))) 156 n (zbo (bt 9 a))) 146 n ((0 : Int32) ||| tx))) (h2 : (¬ ((p + 1) = 1)) → post (.threw (gN S), sI (sI (sT (sNew S 8 0 (zslots 8)) (gN S) 8 1) 136 (gN S) 3) 137 (gN S) (gI S 144 n))) : zCall d 293 [.ref n] S post := by
  have ht : ztab 293 = ztb293 := rfl
  show zEv d 293 0 [.ref n] [] S post
  refine zv_c1 ht rfl rfl ?_
  have C2 : ∀ (pst1 : Outcome × zS → Prop), (pst1 (.returned (some (.int (zbo ((p + 1) = 1)))), S)) → zCall (d - 1) 294 [.ref n] S pst1 := by
    intro pst1 k7
    have ht3 : ztab 294 = ztb294 := rfl
    show zEv (d - 1) 294 0 [.ref n] [] S pst1
    refine zv_c1 ht3 rfl rfl ?_
    refine zv_ei (x := 118) ht3 rfl rfl (zhas_of (htn) rfl) how ?_
    refine zv_sw ht3 rfl rfl rfl rfl rfl ?_
    refine And.intro (fun h => absurd h (by decide)) (fun _ => ?_)
    refine And.intro (fun h => absurd h (by decide)) (fun _ => ?_)
    refine And.intro (fun h => absurd h (by decide)) (fun _ => ?_)
    refine And.intro (fun h => absurd h (by decide)) (fun _ => ?_)
    refine And.intro (fun h => absurd h (by decide)) (fun _ => ?_)
    refine And.intro (fun _ => ?_) (fun h => absurd (by decide) h)
    refine zv_c1 ht3 rfl rfl ?_
    refine zv_g3 (q := x) ht3 rfl hF rfl rfl (zhas_of (htn) rfl) hpx ?_
    refine zv_ei (x := p + 1) ht3 rfl rfl (zhas_nc hcx (by decide)) hbx ?_
    refine zv_c1 ht3 rfl rfl ?_
    have J5 : zEv (d - 1) 294 80 [.retAddr 0] [.int (zbo ((p + 1) = 1))] S pst1 := by
      exact zv_rc ht3 rfl rfl rfl rfl zbo_rng k7
    refine zv_br ht3 rfl rfl rfl (fun b4 => ?_) (fun b4 => ?_)
    · refine zv_c1 ht3 rfl rfl ?_
      exact zEv.wk (L := [.retAddr 0]) (L' := [.ref n]) (And.intro (Or.inr rfl) trivial) (zv_sub (zz := zbo ((p + 1) = 1)) (zy := 0) (p := fun zz => zEv (d - 1) 294 80 [.retAddr 0] [.int zz] S pst1) (zbo_neg b4) J5)
    · replace b4 : (p + 1) = 1 := Classical.not_not.mp b4
      refine zv_c1 ht3 rfl rfl (zv_c1 ht3 rfl rfl ?_)
      exact zEv.wk (L := [.retAddr 0]) (L' := [.ref n]) (And.intro (Or.inr rfl) trivial) (zv_sub (zz := zbo ((p + 1) = 1)) (zy := 1) (p := fun zz => zEv (d - 1) 294 80 [.retAddr 0] [.int zz] S pst1) (zbo_pos b4) J5)
  refine zv_cl ht rfl rfl rfl (zv_tgv (htn) rfl) (by omega) (Nat.le_of_ble_eq_true rfl) (C2 _ ?_)
  show zEv d 293 4 [.ref n] [.int (zbo ((p + 1) = 1))] S post
  refine zv_br ht rfl rfl rfl (fun b8 => ?_) (fun b8 => ?_)
  · replace b8 : (p + 1) = 1 := Classical.byContradiction (fun h => b8 ((zbo_eq0 : (zbo ((p + 1) = 1)) = 0 ↔ ¬ ((p + 1) = 1)).mpr h))
    refine zv_c1 ht rfl rfl ?_
    refine zv_ei (x := 118) ht rfl rfl (zhas_of (htn) rfl) how ?_
    refine zv_sw ht rfl rfl rfl rfl rfl ?_
    refine And.intro (fun h => absurd h (by decide)) (fun _ => ?_)
    refine And.intro (fun h => absurd h (by decide)) (fun _ => ?_)
    refine And.intro (fun h => absurd h (by decide)) (fun _ => ?_)
    refine And.intro (fun h => absurd h (by decide)) (fun _ => ?_)
    refine And.intro (fun h => absurd h (by decide)) (fun _ => ?_)
    refine And.intro (fun _ => ?_) (fun h => absurd (by decide) h)
    refine zv_c1 ht rfl rfl (zv_c1 ht rfl rfl (zv_c1 ht rfl rfl ?_))
    refine zv_g3 (q := x) ht rfl hF rfl rfl (zhas_of (htn) rfl) hpx ?_
    refine zv_ei (x := zbo (bt 0 a)) ht rfl rfl (zhas_nc hcx (by decide)) hzx ?_
    refine zv_c1 ht rfl rfl ?_
    refine zv_g3 (q := x) ht rfl hF rfl rfl (zhas_of (htn) rfl) hpx ?_
    refine zv_ei (x := zbo (bt 1 a)) ht rfl rfl (zhas_nc hcx (by decide)) hox ?_
    refine zv_c1 ht rfl rfl ?_
    refine zv_g3 (q := x) ht rfl hF rfl rfl (zhas_of (htn) rfl) hpx ?_
    refine zv_ei (x := zbo (bt 2 a)) ht rfl rfl (zhas_nc hcx (by decide)) hnx ?_
    refine zv_c1 ht rfl rfl (zv_c1 ht rfl rfl ?_)
    have C10 : ∀ (pst9 : Outcome × zS → Prop), (pst9 (.returned none, sI (sI (sI (sI (sI (sI S 145 n 2) 147 n (zbo (bt 0 a))) 148 n (zbo (bt 1 a))) 149 n (zbo (bt 2 a))) 150 n 0) 151 n 0)) → zCall (d - 1) 284 [.ref n, .int 2, .int (zbo (bt 0 a)), .int (zbo (bt 1 a)), .int (zbo (bt 2 a)), .int 0, .int 0] S pst9 := by
      intro pst9 k12
      have ht11 : ztab 284 = ztb284 := rfl
      show zEv (d - 1) 284 0 [.ref n, .int 2, .int (zbo (bt 0 a)), .int (zbo (bt 1 a)), .int (zbo (bt 2 a)), .int 0, .int 0] [] S pst9
      refine zv_c1 ht11 rfl rfl (zv_c1 ht11 rfl rfl ?_)
      refine zv_ci (S' := sI S 145 n 2) ht11 rfl rfl ⟨(zhas_of (htn) rfl), (show n < gN S from by omega)⟩ ?_
      refine zv_c1 ht11 rfl rfl (zv_c1 ht11 rfl rfl ?_)
      refine zv_ci (S' := sI (sI S 145 n 2) 147 n (zbo (bt 0 a))) ht11 rfl rfl ⟨⟨(zhas_of (htn) rfl), (show n < gN S from by omega)⟩, zbo_rng⟩ ?_
      refine zv_c1 ht11 rfl rfl (zv_c1 ht11 rfl rfl ?_)
      refine zv_ci (S' := sI (sI (sI S 145 n 2) 147 n (zbo (bt 0 a))) 148 n (zbo (bt 1 a))) ht11 rfl rfl ⟨⟨(zhas_of (htn) rfl), (show n < gN S from by omega)⟩, zbo_rng⟩ ?_
      refine zv_c1 ht11 rfl rfl (zv_c1 ht11 rfl rfl ?_)
      refine zv_ci (S' := sI (sI (sI (sI S 145 n 2) 147 n (zbo (bt 0 a))) 148 n (zbo (bt 1 a))) 149 n (zbo (bt 2 a))) ht11 rfl rfl ⟨⟨(zhas_of (htn) rfl), (show n < gN S from by omega)⟩, zbo_rng⟩ ?_
      refine zv_c1 ht11 rfl rfl (zv_c1 ht11 rfl rfl ?_)
      refine zv_ci (S' := sI (sI (sI (sI (sI S 145 n 2) 147 n (zbo (bt 0 a))) 148 n (zbo (bt 1 a))) 149 n (zbo (bt 2 a))) 150 n 0) ht11 rfl rfl ⟨⟨(zhas_of (htn) rfl), (show n < gN S from by omega)⟩, (by decide)⟩ ?_
      refine zv_c1 ht11 rfl rfl (zv_c1 ht11 rfl rfl ?_)
      refine zv_ci (S' := sI (sI (sI (sI (sI (sI S 145 n 2) 147 n (zbo (bt 0 a))) 148 n (zbo (bt 1 a))) 149 n (zbo (bt 2 a))) 150 n 0) 151 n 0) ht11 rfl rfl ⟨⟨(zhas_of (htn) rfl), (show n < gN S from by omega)⟩, (by decide)⟩ ?_
      exact zv_rt ht11 rfl rfl rfl rfl k12
    refine zv_cl ht rfl rfl rfl (zv_tgv (htn) rfl) (by omega) (Nat.le_of_ble_eq_true rfl) (C10 _ ?_)
    show zEv d 293 173 [.ref n] [] (sI (sI (sI (sI (sI (sI S 145 n 2) 147 n (zbo (bt 0 a))) 148 n (zbo (bt 1 a))) 149 n (zbo (bt 2 a))) 150 n 0) 151 n 0) post
    refine zv_c1 ht rfl rfl (zv_c1 ht rfl rfl ?_)
    refine zv_ei (x := 118) ht rfl rfl (zhas_of (htn) rfl) how ?_
    refine zv_sw ht rfl rfl rfl rfl rfl ?_
    refine And.intro (fun h => absurd h (by decide)) (fun _ => ?_)
    refine And.intro (fun h => absurd h (by decide)) (fun _ => ?_)
    refine And.intro (fun _ => ?_) (fun h => absurd (by decide) h)
    refine zv_c1 ht rfl rfl (zv_c1 ht rfl rfl ?_)
    refine zv_g3 (q := x) ht rfl hF rfl rfl (zhas_of (htn) rfl) hpx ?_
    refine zv_ei (x := zbo (bt 5 a)) ht rfl rfl (zhas_nc hcx (by decide)) hsx ?_
    refine zv_c1 ht rfl rfl (zv_c1 ht rfl rfl (zv_c1 ht rfl rfl ?_))
    refine zv_g3 (q := x) ht rfl hF rfl rfl (zhas_of (htn) rfl) hpx ?_
    refine zv_ei (x := zbo (bt 8 a)) ht rfl rfl (zhas_nc hcx (by decide)) hmx ?_
    have C14 : ∀ (pst13 : Outcome × zS → Prop), (pst13 (.returned none, sI (sI (sI (sI (sI (sI (sI (sI (sI (sI S 145 n 2) 147 n (zbo (bt 0 a))) 148 n (zbo (bt 1 a))) 149 n (zbo (bt 2 a))) 150 n 0) 151 n 0) 152 n (zbo (bt 5 a))) 153 n 1) 154 n 0) 155 n (zbo (bt 8 a)))) → zCall (d - 1) 285 [.ref n, .int (zbo (bt 5 a)), .int 1, .int 0, .int (zbo (bt 8 a))] (sI (sI (sI (sI (sI (sI S 145 n 2) 147 n (zbo (bt 0 a))) 148 n (zbo (bt 1 a))) 149 n (zbo (bt 2 a))) 150 n 0) 151 n 0) pst13 := by
      intro pst13 k16
      have ht15 : ztab 285 = ztb285 := rfl
      show zEv (d - 1) 285 0 [.ref n, .int (zbo (bt 5 a)), .int 1, .int 0, .int (zbo (bt 8 a))] [] (sI (sI (sI (sI (sI (sI S 145 n 2) 147 n (zbo (bt 0 a))) 148 n (zbo (bt 1 a))) 149 n (zbo (bt 2 a))) 150 n 0) 151 n 0) pst13
      refine zv_c1 ht15 rfl rfl (zv_c1 ht15 rfl rfl ?_)
      refine zv_ci (S' := sI (sI (sI (sI (sI (sI (sI S 145 n 2) 147 n (zbo (bt 0 a))) 148 n (zbo (bt 1 a))) 149 n (zbo (bt 2 a))) 150 n 0) 151 n 0) 152 n (zbo (bt 5 a))) ht15 rfl rfl ⟨⟨(zhas_of (htn) rfl), (show n < gN S from by omega)⟩, zbo_rng⟩ ?_
      refine zv_c1 ht15 rfl rfl (zv_c1 ht15 rfl rfl ?_)
      refine zv_ci (S' := sI (sI (sI (sI (sI (sI (sI (sI S 145 n 2) 147 n (zbo (bt 0 a))) 148 n (zbo (bt 1 a))) 149 n (zbo (bt 2 a))) 150 n 0) 151 n 0) 152 n (zbo (bt 5 a))) 153 n 1) ht15 rfl rfl ⟨⟨(zhas_of (htn) rfl), (show n < gN S from by omega)⟩, (by decide)⟩ ?_
      refine zv_c1 ht15 rfl rfl (zv_c1 ht15 rfl rfl ?_)
      refine zv_ci (S' := sI (sI (sI (sI (sI (sI (sI (sI (sI S 145 n 2) 147 n (zbo (bt 0 a))) 148 n (zbo (bt 1 a))) 149 n (zbo (bt 2 a))) 150 n 0) 151 n 0) 152 n (zbo (bt 5 a))) 153 n 1) 154 n 0) ht15 rfl rfl ⟨⟨(zhas_of (htn) rfl), (show n < gN S from by omega)⟩, (by decide)⟩ ?_
      refine zv_c1 ht15 rfl rfl (zv_c1 ht15 rfl rfl ?_)
      refine zv_ci (S' := sI (sI (sI (sI (sI (sI (sI (sI (sI (sI S 145 n 2) 147 n (zbo (bt 0 a))) 148 n (zbo (bt 1 a))) 149 n (zbo (bt 2 a))) 150 n 0) 151 n 0) 152 n (zbo (bt 5 a))) 153 n 1) 154 n 0) 155 n (zbo (bt 8 a))) ht15 rfl rfl ⟨⟨(zhas_of (htn) rfl), (show n < gN S from by omega)⟩, zbo_rng⟩ ?_
      exact zv_rt ht15 rfl rfl rfl rfl k16
    refine zv_cl ht rfl rfl rfl (zv_tgv (htn) rfl) (by omega) (Nat.le_of_ble_eq_true rfl) (C14 _ ?_)
    show zEv d 293 315 [.ref n] [] (sI (sI (sI (sI (sI (sI (sI (sI (sI (sI S 145 n 2) 147 n (zbo (bt 0 a))) 148 n (zbo (bt 1 a))) 149 n (zbo (bt 2 a))) 150 n 0) 151 n 0) 152 n (zbo (bt 5 a))) 153 n 1) 154 n 0) 155 n (zbo (bt 8 a))) post
    refine zv_c1 ht rfl rfl (zv_c1 ht rfl rfl (zv_c1 ht rfl rfl ?_))
    refine zv_g3 (q := x) ht rfl hF rfl rfl (zhas_of (htn) rfl) hpx ?_
    refine zv_c1 ht rfl rfl ?_
    have C18 : ∀ (pst17 : Outcome × zS → Prop), (pst17 (.returned none, sI (sI (sI (sI (sI (sI (sI (sI (sI (sI (sI (sI S 145 n 2) 147 n (zbo (bt 0 a))) 148 n (zbo (bt 1 a))) 149 n (zbo (bt 2 a))) 150 n 0) 151 n 0) 152 n (zbo (bt 5 a))) 153 n 1) 154 n 0) 155 n (zbo (bt 8 a))) 156 n (zbo (bt 9 a))) 146 n ((0 : Int32) ||| tx))) → zCall (d - 1) 286 [.ref n, .ref x, .int 0] (sI (sI (sI (sI (sI (sI (sI (sI (sI (sI S 145 n 2) 147 n (zbo (bt 0 a))) 148 n (zbo (bt 1 a))) 149 n (zbo (bt 2 a))) 150 n 0) 151 n 0) 152 n (zbo (bt 5 a))) 153 n 1) 154 n 0) 155 n (zbo (bt 8 a))) pst17 := by
      intro pst17 k24
      have ht19 : ztab 286 = ztb286 := rfl
      show zEv (d - 1) 286 0 [.ref n, .ref x, .int 0] [] (sI (sI (sI (sI (sI (sI (sI (sI (sI (sI S 145 n 2) 147 n (zbo (bt 0 a))) 148 n (zbo (bt 1 a))) 149 n (zbo (bt 2 a))) 150 n 0) 151 n 0) 152 n (zbo (bt 5 a))) 153 n 1) 154 n 0) 155 n (zbo (bt 8 a))) pst17
      refine zv_c1 ht19 rfl rfl ?_
      refine zv_br ht19 rfl rfl rfl (fun _ => ?_) (fun h => absurd (by decide) h)
      refine zv_c1 ht19 rfl rfl (zv_c1 ht19 rfl rfl ?_)
      refine zv_ei (x := zbo False) ht19 rfl rfl (zhas_of (htn) rfl) hm0 ?_
      refine zv_br ht19 rfl rfl rfl (fun b20 => (b20 ((zbo_eq0 : (zbo False) = 0 ↔ ¬ False).mpr trivial)).elim) (fun b20 => ?_)
      refine zv_c1 ht19 rfl rfl ?_
      refine zv_ei (x := zbo (bt 9 a)) ht19 rfl rfl (zhas_nc hcx (by decide)) hmixedx ?_
      have J22 : zEv (d - 1) 286 73 [.ref n, .ref x, .retAddr 0] [.int (zbo (bt 9 a)), .ref n] (sI (sI (sI (sI (sI (sI (sI (sI (sI (sI S 145 n 2) 147 n (zbo (bt 0 a))) 148 n (zbo (bt 1 a))) 149 n (zbo (bt 2 a))) 150 n 0) 151 n 0) 152 n (zbo (bt 5 a))) 153 n 1) 154 n 0) 155 n (zbo (bt 8 a))) pst17 := by
        refine zv_ci (S' := sI (sI (sI (sI (sI (sI (sI (sI (sI (sI (sI S 145 n 2) 147 n (zbo (bt 0 a))) 148 n (zbo (bt 1 a))) 149 n (zbo (bt 2 a))) 150 n 0) 151 n 0) 152 n (zbo (bt 5 a))) 153 n 1) 154 n 0) 155 n (zbo (bt 8 a))) 156 n (zbo (bt 9 a))) ht19 rfl rfl ⟨⟨(zhas_of (htn) rfl), (show n < gN S from by omega)⟩, zbo_rng⟩ ?_
        refine zv_c1 ht19 rfl rfl (zv_c1 ht19 rfl rfl ?_)
        refine zv_ei (x := 0) ht19 rfl rfl (zhas_of (htn) rfl) ht0 ?_
        refine zv_c1 ht19 rfl rfl ?_
        refine zv_ei (x := tx) ht19 rfl rfl (zhas_nc hcx (by decide)) htx ?_
        refine zv_c1 (st' := [.int ((0 : Int32) ||| tx), .ref n]) (S' := sI (sI (sI (sI (sI (sI (sI (sI (sI (sI (sI S 145 n 2) 147 n (zbo (bt 0 a))) 148 n (zbo (bt 1 a))) 149 n (zbo (bt 2 a))) 150 n 0) 151 n 0) 152 n (zbo (bt 5 a))) 153 n 1) 154 n 0) 155 n (zbo (bt 8 a))) 156 n (zbo (bt 9 a))) ht19 rfl rfl ?_
        refine zv_ci (S' := sI (sI (sI (sI (sI (sI (sI (sI (sI (sI (sI (sI S 145 n 2) 147 n (zbo (bt 0 a))) 148 n (zbo (bt 1 a))) 149 n (zbo (bt 2 a))) 150 n 0) 151 n 0) 152 n (zbo (bt 5 a))) 153 n 1) 154 n 0) 155 n (zbo (bt 8 a))) 156 n (zbo (bt 9 a))) 146 n ((0 : Int32) ||| tx)) ht19 rfl rfl ⟨(zhas_of (htn) rfl), (show n < gN S from by omega)⟩ ?_
        exact zv_rt ht19 rfl rfl rfl rfl k24
      refine zv_br ht19 rfl rfl rfl (fun b21 => ?_) (fun b21 => ?_)
      · replace b21 : ¬ (bt 9 a) := (zbo_eq0 : (zbo (bt 9 a)) = 0 ↔ ¬ (bt 9 a)).mp b21
        refine zv_c1 ht19 rfl rfl ?_
        exact zEv.wk (L := [.ref n, .ref x, .retAddr 0]) (L' := [.ref n, .ref x, .int 0]) (And.intro (Or.inl rfl) (And.intro (Or.inl rfl) (And.intro (Or.inr rfl) trivial))) (zv_sub (zz := zbo (bt 9 a)) (zy := 0) (p := fun zz => zEv (d - 1) 286 73 [.ref n, .ref x, .retAddr 0] [.int zz, .ref n] (sI (sI (sI (sI (sI (sI (sI (sI (sI (sI S 145 n 2) 147 n (zbo (bt 0 a))) 148 n (zbo (bt 1 a))) 149 n (zbo (bt 2 a))) 150 n 0) 151 n 0) 152 n (zbo (bt 5 a))) 153 n 1) 154 n 0) 155 n (zbo (bt 8 a))) pst17) (zbo_neg b21) J22)
      · replace b21 : bt 9 a := Classical.byContradiction (fun h => b21 ((zbo_eq0 : (zbo (bt 9 a)) = 0 ↔ ¬ (bt 9 a)).mpr h))
        refine zv_c1 ht19 rfl rfl (zv_c1 ht19 rfl rfl ?_)
        exact zEv.wk (L := [.ref n, .ref x, .retAddr 0]) (L' := [.ref n, .ref x, .int 0]) (And.intro (Or.inl rfl) (And.intro (Or.inl rfl) (And.intro (Or.inr rfl) trivial))) (zv_sub (zz := zbo (bt 9 a)) (zy := 1) (p := fun zz => zEv (d - 1) 286 73 [.ref n, .ref x, .retAddr 0] [.int zz, .ref n] (sI (sI (sI (sI (sI (sI (sI (sI (sI (sI S 145 n 2) 147 n (zbo (bt 0 a))) 148 n (zbo (bt 1 a))) 149 n (zbo (bt 2 a))) 150 n 0) 151 n 0) 152 n (zbo (bt 5 a))) 153 n 1) 154 n 0) 155 n (zbo (bt 8 a))) pst17) (zbo_pos b21) J22)
    refine zv_cl ht rfl rfl rfl (zv_tgv (htn) rfl) (by omega) (Nat.le_of_ble_eq_true rfl) (C18 _ ?_)
    show zEv d 293 388 [.ref n] [] (sI (sI (sI (sI (sI (sI (sI (sI (sI (sI (sI (sI S 145 n 2) 147 n (zbo (bt 0 a))) 148 n (zbo (bt 1 a))) 149 n (zbo (bt 2 a))) 150 n 0) 151 n 0) 152 n (zbo (bt 5 a))) 153 n 1) 154 n 0) 155 n (zbo (bt 8 a))) 156 n (zbo (bt 9 a))) 146 n ((0 : Int32) ||| tx)) post
    exact zv_rt ht rfl rfl rfl rfl (h1 b8)
  · replace b8 : ¬ ((p + 1) = 1) := (zbo_eq0 : (zbo ((p + 1) = 1)) = 0 ↔ ¬ ((p + 1) = 1)).mp (Classical.not_not.mp b8)
    refine zv_c1 ht rfl rfl ?_
    have C26 : ∀ (pst25 : Outcome × zS → Prop), (pst25 (.returned (some (.ref (gN S))), sI (sI (sT (sNew S 8 0 (zslots 8)) (gN S) 8 1) 136 (gN S) 3) 137 (gN S) (gI S 144 n))) → zCall (d - 1) 283 [.ref n] S pst25 := by
      intro pst25 k32
      have ht27 : ztab 283 = ztb283 := rfl
      show zEv (d - 1) 283 0 [.ref n] [] S pst25
      refine zv_ci (st' := [.ref (gN S)]) (S' := sNew S 8 0 (zslots 8)) ht27 rfl rfl (znew_ok (show 1639 ≤ gN S from by omega) (show gN S < 2000000 from by omega)) ?_
      refine zv_c1 ht27 rfl rfl (zv_c1 ht27 rfl rfl (zv_c1 ht27 rfl rfl ?_))
      refine zv_ei (x := gI S 144 n) ht27 rfl rfl (zhas_of (Eq.trans (ztyp_new (S := S) (t := 8) (n := 0) (s := zslots 8) (show n ≠ gN S from by omega)) htn) rfl) (gI_new (S := S) (t := 8) (n := 0) (s := zslots 8) (show n ≠ gN S from by omega)) ?_
      have C29 : ∀ (pst28 : Outcome × zS → Prop), (pst28 (.returned none, sI (sI (sT (sNew S 8 0 (zslots 8)) (gN S) 8 1) 136 (gN S) 3) 137 (gN S) (gI S 144 n))) → zCall ((d - 1) - 1) 269 [.ref (gN S), .int 3, .int (gI S 144 n)] (sNew S 8 0 (zslots 8)) pst28 := by
        intro pst28 k31
        have ht30 : ztab 269 = ztb269 := rfl
        show zEv ((d - 1) - 1) 269 0 [.ref (gN S), .int 3, .int (gI S 144 n)] [] (sNew S 8 0 (zslots 8)) pst28
        refine zv_c1 ht30 rfl rfl ?_
        refine zv_ci (S' := sT (sNew S 8 0 (zslots 8)) (gN S) 8 1) ht30 rfl rfl ⟨ztyp_new_at (S := S) (t := 8) (n := 0) (s := zslots 8) (show 1639 ≤ gN S from by omega), (show gN S < gN S + 1 from by omega), zlen_new_at (S := S) (t := 8) (n := 0) (s := zslots 8) (show 1639 ≤ gN S from by omega)⟩ ?_
        refine zv_c1 ht30 rfl rfl (zv_c1 ht30 rfl rfl ?_)
        refine zv_ci (S' := sI (sT (sNew S 8 0 (zslots 8)) (gN S) 8 1) 136 (gN S) 3) ht30 rfl rfl ⟨⟨(zhas_of (ztyp_sT1 (show 1639 ≤ gN S from by omega)) rfl), (show gN S < gN S + 1 from by omega)⟩, zlen_sT1 (show 1639 ≤ gN S from by omega)⟩ ?_
        refine zv_c1 ht30 rfl rfl (zv_c1 ht30 rfl rfl ?_)
        refine zv_ci (S' := sI (sI (sT (sNew S 8 0 (zslots 8)) (gN S) 8 1) 136 (gN S) 3) 137 (gN S) (gI S 144 n)) ht30 rfl rfl ⟨⟨(zhas_of (ztyp_sT1 (show 1639 ≤ gN S from by omega)) rfl), (show gN S < gN S + 1 from by omega)⟩, zlen_sT1 (show 1639 ≤ gN S from by omega)⟩ ?_
        exact zv_rt ht30 rfl rfl rfl rfl k31
      refine zv_cl ht27 rfl rfl rfl rfl (by omega) (Nat.le_of_ble_eq_true rfl) (C29 _ ?_)
      show zEv (d - 1) 283 12 [.ref n] [.ref (gN S)] (sI (sI (sT (sNew S 8 0 (zslots 8)) (gN S) 8 1) 136 (gN S) 3) 137 (gN S) (gI S 144 n)) pst25
      exact zv_rt ht27 rfl rfl rfl rfl k32
    refine zv_cl ht rfl rfl rfl (zv_tgv (htn) rfl) (by omega) (Nat.le_of_ble_eq_true rfl) (C26 _ ?_)
    show zEv d 293 11 [.ref n] [.ref (gN S)] (sI (sI (sT (sNew S 8 0 (zslots 8)) (gN S) 8 1) 136 (gN S) 3) 137 (gN S) (gI S 144 n)) post
    exact zv_th ht rfl rfl rfl ⟨ztyp_sT1 (show 1639 ≤ gN S from by omega), (show gN S < gN S + 1 from by omega)⟩ rfl (h2 b8)

theorem wj_24 {d : Nat} {S : zS} (hF : zFin true S) (hd : 2 ≤ d) (n x : Nat) (p a tx : Int32) (hn0 : 1639 ≤ n) (hn : n < gN S) (hx : x < gN S) (hxn : x ≠ n) (hcx : zNc (ztyp S x) = true) (hN2 : gN S < 1900000) (htn : ztyp S n = 11) (how : gI S 160 n = Int32.ofNat 106) (hpx : gP S 161 n = some x) (hbx : gI S 145 x = p + 1) (hzx : gI S 147 x = zbo (bt 0 a)) (hox : gI S 148 x = zbo (bt 1 a)) (hnx : gI S 149 x = zbo (bt 2 a)) (hdx : gI S 150 x = zbo (bt 3 a)) (hux : gI S 151 x = zbo (bt 4 a)) (hsx : gI S 152 x = zbo (bt 5 a)) (hfx : gI S 153 x = zbo (bt 6 a)) (hex : gI S 154 x = zbo (bt 7 a)) (hmx : gI S 155 x = zbo (bt 8 a)) (hmixedx : gI S 156 x = zbo (bt 9 a)) (htx : gI S 146 x = tx) (hm0 : gI S 156 n = zbo False) (ht0 : gI S 146 n = 0) {post : Outcome × zS → Prop} (h1 : (((p + 1) = 1) ∧ (bt 2 a)) → post (.returned none, sI (sI (sI (sI (sI (sI (sI (sI (sI (sI (sI (sI S 145 n 1) 147 n 0) 148 n (zbo (bt 1 a))) 149 n 1) 150 n 1) 151 n (zbo (bt 4 a))) 152 n (zbo (bt 5 a))) 153 n 0) 154 n (zbo (bt 6 a))) 155 n (zbo (bt 8 a))) 156 n (zbo (bt 9 a))) 146 n ((0 : Int32) ||| tx))) (h2 : (¬ (((p + 1) = 1) ∧ (bt 2 a))) → post (.threw (gN S), sI (sI (sT (sNew S 8 0 (zslots 8)) (gN S) 8 1) 136 (gN S) 3) 137 (gN S) (gI S 144 n))) : zCall d 293 [.ref n] S post := by
  have ht : ztab 293 = ztb293 := rfl
  show zEv d 293 0 [.ref n] [] S post
  refine zv_c1 ht rfl rfl ?_
  have C2 : ∀ (pst1 : Outcome × zS → Prop), (pst1 (.returned (some (.int (zbo (((p + 1) = 1) ∧ (bt 2 a))))), S)) → zCall (d - 1) 294 [.ref n] S pst1 := by
    intro pst1 k10
    have ht3 : ztab 294 = ztb294 := rfl
    show zEv (d - 1) 294 0 [.ref n] [] S pst1
    refine zv_c1 ht3 rfl rfl ?_
    refine zv_ei (x := 106) ht3 rfl rfl (zhas_of (htn) rfl) how ?_
    refine zv_sw ht3 rfl rfl rfl rfl rfl ?_
    refine And.intro (fun h => absurd h (by decide)) (fun _ => ?_)
    refine And.intro (fun h => absurd h (by decide)) (fun _ => ?_)
    refine And.intro (fun h => absurd h (by decide)) (fun _ => ?_)
    refine And.intro (fun h => absurd h (by decide)) (fun _ => ?_)
    refine And.intro (fun h => absurd h (by decide)) (fun _ => ?_)
    refine And.intro (fun h => absurd h (by decide)) (fun _ => ?_)
    refine zv_c1 ht3 rfl rfl ?_
    refine zv_g3 (q := x) ht3 rfl hF rfl rfl (zhas_of (htn) rfl) hpx ?_
    refine zv_ei (x := p + 1) ht3 rfl rfl (zhas_nc hcx (by decide)) hbx ?_
    refine zv_c1 ht3 rfl rfl ?_
    have J8 : zEv (d - 1) 294 178 [.retAddr 0] [.int (zbo (((p + 1) = 1) ∧ (bt 2 a)))] S pst1 := by
      exact zv_rc ht3 rfl rfl rfl rfl zbo_rng k10
    have J6 : ((¬ ((p + 1) = 1)) ∨ (¬ (bt 2 a))) → zEv (d - 1) 294 177 [.retAddr 0] [] S pst1 := by
      intro b7
      refine zv_c1 ht3 rfl rfl ?_
      exact (zv_sub (zz := zbo (((p + 1) = 1) ∧ (bt 2 a))) (zy := 0) (p := fun zz => zEv (d - 1) 294 178 [.retAddr 0] [.int zz] S pst1) (zbo_neg (b7.elim (fun y1 => (fun h => y1 h.1)) (fun y1 => (fun h => y1 h.2)))) J8)
    refine zv_br ht3 rfl rfl rfl (fun b4 => ?_) (fun b4 => ?_)
    · exact zEv.wk (L := [.retAddr 0]) (L' := [.ref n]) (And.intro (Or.inr rfl) trivial) (J6 (Or.inl b4))
    · replace b4 : (p + 1) = 1 := Classical.not_not.mp b4
      refine zv_c1 ht3 rfl rfl ?_
      refine zv_g3 (q := x) ht3 rfl hF rfl rfl (zhas_of (htn) rfl) hpx ?_
      refine zv_ei (x := zbo (bt 2 a)) ht3 rfl rfl (zhas_nc hcx (by decide)) hnx ?_
      refine zv_br ht3 rfl rfl rfl (fun b5 => ?_) (fun b5 => ?_)
      · replace b5 : ¬ (bt 2 a) := (zbo_eq0 : (zbo (bt 2 a)) = 0 ↔ ¬ (bt 2 a)).mp b5
        exact zEv.wk (L := [.retAddr 0]) (L' := [.ref n]) (And.intro (Or.inr rfl) trivial) (J6 (Or.inr b5))
      · replace b5 : bt 2 a := Classical.byContradiction (fun h => b5 ((zbo_eq0 : (zbo (bt 2 a)) = 0 ↔ ¬ (bt 2 a)).mpr h))
        refine zv_c1 ht3 rfl rfl (zv_c1 ht3 rfl rfl ?_)
        exact zEv.wk (L := [.retAddr 0]) (L' := [.ref n]) (And.intro (Or.inr rfl) trivial) (zv_sub (zz := zbo (((p + 1) = 1) ∧ (bt 2 a))) (zy := 1) (p := fun zz => zEv (d - 1) 294 178 [.retAddr 0] [.int zz] S pst1) (zbo_pos ⟨b4, b5⟩) J8)
  refine zv_cl ht rfl rfl rfl (zv_tgv (htn) rfl) (by omega) (Nat.le_of_ble_eq_true rfl) (C2 _ ?_)
  show zEv d 293 4 [.ref n] [.int (zbo (((p + 1) = 1) ∧ (bt 2 a)))] S post
  refine zv_br ht rfl rfl rfl (fun b11 => ?_) (fun b11 => ?_)
  · replace b11 : ((p + 1) = 1) ∧ (bt 2 a) := Classical.byContradiction (fun h => b11 ((zbo_eq0 : (zbo (((p + 1) = 1) ∧ (bt 2 a))) = 0 ↔ ¬ (((p + 1) = 1) ∧ (bt 2 a))).mpr h))
    refine zv_c1 ht rfl rfl ?_
    refine zv_ei (x := 106) ht rfl rfl (zhas_of (htn) rfl) how ?_
    refine zv_sw ht rfl rfl rfl rfl rfl ?_
    refine And.intro (fun h => absurd h (by decide)) (fun _ => ?_)
    refine And.intro (fun h => absurd h (by decide)) (fun _ => ?_)
    refine And.intro (fun h => absurd h (by decide)) (fun _ => ?_)
    refine And.intro (fun _ => ?_) (fun h => absurd (by decide) h)
    refine zv_c1 ht rfl rfl (zv_c1 ht rfl rfl (zv_c1 ht rfl rfl (zv_c1 ht rfl rfl ?_)))
    refine zv_g3 (q := x) ht rfl hF rfl rfl (zhas_of (htn) rfl) hpx ?_
    refine zv_ei (x := zbo (bt 1 a)) ht rfl rfl (zhas_nc hcx (by decide)) hox ?_
    refine zv_c1 ht rfl rfl (zv_c1 ht rfl rfl (zv_c1 ht rfl rfl ?_))
    refine zv_g3 (q := x) ht rfl hF rfl rfl (zhas_of (htn) rfl) hpx ?_
    refine zv_ei (x := zbo (bt 4 a)) ht rfl rfl (zhas_nc hcx (by decide)) hux ?_
    have C13 : ∀ (pst12 : Outcome × zS → Prop), (pst12 (.returned none, sI (sI (sI (sI (sI (sI S 145 n 1) 147 n 0) 148 n (zbo (bt 1 a))) 149 n 1) 150 n 1) 151 n (zbo (bt 4 a)))) → zCall (d - 1) 284 [.ref n, .int 1, .int 0, .int (zbo (bt 1 a)), .int 1, .int 1, .int (zbo (bt 4 a))] S pst12 := by
      intro pst12 k15
      have ht14 : ztab 284 = ztb284 := rfl
      show zEv (d - 1) 284 0 [.ref n, .int 1, .int 0, .int (zbo (bt 1 a)), .int 1, .int 1, .int (zbo (bt 4 a))] [] S pst12
      refine zv_c1 ht14 rfl rfl (zv_c1 ht14 rfl rfl ?_)
      refine zv_ci (S' := sI S 145 n 1) ht14 rfl rfl ⟨(zhas_of (htn) rfl), (show n < gN S from by omega)⟩ ?_
      refine zv_c1 ht14 rfl rfl (zv_c1 ht14 rfl rfl ?_)
      refine zv_ci (S' := sI (sI S 145 n 1) 147 n 0) ht14 rfl rfl ⟨⟨(zhas_of (htn) rfl), (show n < gN S from by omega)⟩, (by decide)⟩ ?_
      refine zv_c1 ht14 rfl rfl (zv_c1 ht14 rfl rfl ?_)
      refine zv_ci (S' := sI (sI (sI S 145 n 1) 147 n 0) 148 n (zbo (bt 1 a))) ht14 rfl rfl ⟨⟨(zhas_of (htn) rfl), (show n < gN S from by omega)⟩, zbo_rng⟩ ?_
      refine zv_c1 ht14 rfl rfl (zv_c1 ht14 rfl rfl ?_)
      refine zv_ci (S' := sI (sI (sI (sI S 145 n 1) 147 n 0) 148 n (zbo (bt 1 a))) 149 n 1) ht14 rfl rfl ⟨⟨(zhas_of (htn) rfl), (show n < gN S from by omega)⟩, (by decide)⟩ ?_
      refine zv_c1 ht14 rfl rfl (zv_c1 ht14 rfl rfl ?_)
      refine zv_ci (S' := sI (sI (sI (sI (sI S 145 n 1) 147 n 0) 148 n (zbo (bt 1 a))) 149 n 1) 150 n 1) ht14 rfl rfl ⟨⟨(zhas_of (htn) rfl), (show n < gN S from by omega)⟩, (by decide)⟩ ?_
      refine zv_c1 ht14 rfl rfl (zv_c1 ht14 rfl rfl ?_)
      refine zv_ci (S' := sI (sI (sI (sI (sI (sI S 145 n 1) 147 n 0) 148 n (zbo (bt 1 a))) 149 n 1) 150 n 1) 151 n (zbo (bt 4 a))) ht14 rfl rfl ⟨⟨(zhas_of (htn) rfl), (show n < gN S from by omega)⟩, zbo_rng⟩ ?_
      exact zv_rt ht14 rfl rfl rfl rfl k15
    refine zv_cl ht rfl rfl rfl (zv_tgv (htn) rfl) (by omega) (Nat.le_of_ble_eq_true rfl) (C13 _ ?_)
    show zEv d 293 198 [.ref n] [] (sI (sI (sI (sI (sI (sI S 145 n 1) 147 n 0) 148 n (zbo (bt 1 a))) 149 n 1) 150 n 1) 151 n (zbo (bt 4 a))) post
    refine zv_c1 ht rfl rfl (zv_c1 ht rfl rfl ?_)
    refine zv_ei (x := 106) ht rfl rfl (zhas_of (htn) rfl) how ?_
    refine zv_sw ht rfl rfl rfl rfl rfl ?_
    refine And.intro (fun h => absurd h (by decide)) (fun _ => ?_)
    refine And.intro (fun _ => ?_) (fun h => absurd (by decide) h)
    refine zv_c1 ht rfl rfl (zv_c1 ht rfl rfl ?_)
    refine zv_g3 (q := x) ht rfl hF rfl rfl (zhas_of (htn) rfl) hpx ?_
    refine zv_ei (x := zbo (bt 5 a)) ht rfl rfl (zhas_nc hcx (by decide)) hsx ?_
    refine zv_c1 ht rfl rfl (zv_c1 ht rfl rfl ?_)
    refine zv_g3 (q := x) ht rfl hF rfl rfl (zhas_of (htn) rfl) hpx ?_
    refine zv_ei (x := zbo (bt 6 a)) ht rfl rfl (zhas_nc hcx (by decide)) hfx ?_
    refine zv_c1 ht rfl rfl ?_
    refine zv_g3 (q := x) ht rfl hF rfl rfl (zhas_of (htn) rfl) hpx ?_
    refine zv_ei (x := zbo (bt 8 a)) ht rfl rfl (zhas_nc hcx (by decide)) hmx ?_
    have C17 : ∀ (pst16 : Outcome × zS → Prop), (pst16 (.returned none, sI (sI (sI (sI (sI (sI (sI (sI (sI (sI S 145 n 1) 147 n 0) 148 n (zbo (bt 1 a))) 149 n 1) 150 n 1) 151 n (zbo (bt 4 a))) 152 n (zbo (bt 5 a))) 153 n 0) 154 n (zbo (bt 6 a))) 155 n (zbo (bt 8 a)))) → zCall (d - 1) 285 [.ref n, .int (zbo (bt 5 a)), .int 0, .int (zbo (bt 6 a)), .int (zbo (bt 8 a))] (sI (sI (sI (sI (sI (sI S 145 n 1) 147 n 0) 148 n (zbo (bt 1 a))) 149 n 1) 150 n 1) 151 n (zbo (bt 4 a))) pst16 := by
      intro pst16 k19
      have ht18 : ztab 285 = ztb285 := rfl
      show zEv (d - 1) 285 0 [.ref n, .int (zbo (bt 5 a)), .int 0, .int (zbo (bt 6 a)), .int (zbo (bt 8 a))] [] (sI (sI (sI (sI (sI (sI S 145 n 1) 147 n 0) 148 n (zbo (bt 1 a))) 149 n 1) 150 n 1) 151 n (zbo (bt 4 a))) pst16
      refine zv_c1 ht18 rfl rfl (zv_c1 ht18 rfl rfl ?_)
      refine zv_ci (S' := sI (sI (sI (sI (sI (sI (sI S 145 n 1) 147 n 0) 148 n (zbo (bt 1 a))) 149 n 1) 150 n 1) 151 n (zbo (bt 4 a))) 152 n (zbo (bt 5 a))) ht18 rfl rfl ⟨⟨(zhas_of (htn) rfl), (show n < gN S from by omega)⟩, zbo_rng⟩ ?_
      refine zv_c1 ht18 rfl rfl (zv_c1 ht18 rfl rfl ?_)
      refine zv_ci (S' := sI (sI (sI (sI (sI (sI (sI (sI S 145 n 1) 147 n 0) 148 n (zbo (bt 1 a))) 149 n 1) 150 n 1) 151 n (zbo (bt 4 a))) 152 n (zbo (bt 5 a))) 153 n 0) ht18 rfl rfl ⟨⟨(zhas_of (htn) rfl), (show n < gN S from by omega)⟩, (by decide)⟩ ?_
      refine zv_c1 ht18 rfl rfl (zv_c1 ht18 rfl rfl ?_)
      refine zv_ci (S' := sI (sI (sI (sI (sI (sI (sI (sI (sI S 145 n 1) 147 n 0) 148 n (zbo (bt 1 a))) 149 n 1) 150 n 1) 151 n (zbo (bt 4 a))) 152 n (zbo (bt 5 a))) 153 n 0) 154 n (zbo (bt 6 a))) ht18 rfl rfl ⟨⟨(zhas_of (htn) rfl), (show n < gN S from by omega)⟩, zbo_rng⟩ ?_
      refine zv_c1 ht18 rfl rfl (zv_c1 ht18 rfl rfl ?_)
      refine zv_ci (S' := sI (sI (sI (sI (sI (sI (sI (sI (sI (sI S 145 n 1) 147 n 0) 148 n (zbo (bt 1 a))) 149 n 1) 150 n 1) 151 n (zbo (bt 4 a))) 152 n (zbo (bt 5 a))) 153 n 0) 154 n (zbo (bt 6 a))) 155 n (zbo (bt 8 a))) ht18 rfl rfl ⟨⟨(zhas_of (htn) rfl), (show n < gN S from by omega)⟩, zbo_rng⟩ ?_
      exact zv_rt ht18 rfl rfl rfl rfl k19
    refine zv_cl ht rfl rfl rfl (zv_tgv (htn) rfl) (by omega) (Nat.le_of_ble_eq_true rfl) (C17 _ ?_)
    show zEv d 293 344 [.ref n] [] (sI (sI (sI (sI (sI (sI (sI (sI (sI (sI S 145 n 1) 147 n 0) 148 n (zbo (bt 1 a))) 149 n 1) 150 n 1) 151 n (zbo (bt 4 a))) 152 n (zbo (bt 5 a))) 153 n 0) 154 n (zbo (bt 6 a))) 155 n (zbo (bt 8 a))) post
    refine zv_c1 ht rfl rfl (zv_c1 ht rfl rfl (zv_c1 ht rfl rfl ?_))
    refine zv_g3 (q := x) ht rfl hF rfl rfl (zhas_of (htn) rfl) hpx ?_
    refine zv_c1 ht rfl rfl ?_
    have C21 : ∀ (pst20 : Outcome × zS → Prop), (pst20 (.returned none, sI (sI (sI (sI (sI (sI (sI (sI (sI (sI (sI (sI S 145 n 1) 147 n 0) 148 n (zbo (bt 1 a))) 149 n 1) 150 n 1) 151 n (zbo (bt 4 a))) 152 n (zbo (bt 5 a))) 153 n 0) 154 n (zbo (bt 6 a))) 155 n (zbo (bt 8 a))) 156 n (zbo (bt 9 a))) 146 n ((0 : Int32) ||| tx))) → zCall (d - 1) 286 [.ref n, .ref x, .int 0] (sI (sI (sI (sI (sI (sI (sI (sI (sI (sI S 145 n 1) 147 n 0) 148 n (zbo (bt 1 a))) 149 n 1) 150 n 1) 151 n (zbo (bt 4 a))) 152 n (zbo (bt 5 a))) 153 n 0) 154 n (zbo (bt 6 a))) 155 n (zbo (bt 8 a))) pst20 := by
      intro pst20 k27
      have ht22 : ztab 286 = ztb286 := rfl
      show zEv (d - 1) 286 0 [.ref n, .ref x, .int 0] [] (sI (sI (sI (sI (sI (sI (sI (sI (sI (sI S 145 n 1) 147 n 0) 148 n (zbo (bt 1 a))) 149 n 1) 150 n 1) 151 n (zbo (bt 4 a))) 152 n (zbo (bt 5 a))) 153 n 0) 154 n (zbo (bt 6 a))) 155 n (zbo (bt 8 a))) pst20
      refine zv_c1 ht22 rfl rfl ?_
      refine zv_br ht22 rfl rfl rfl (fun _ => ?_) (fun h => absurd (by decide) h)
      refine zv_c1 ht22 rfl rfl (zv_c1 ht22 rfl rfl ?_)
      refine zv_ei (x := zbo False) ht22 rfl rfl (zhas_of (htn) rfl) hm0 ?_
      refine zv_br ht22 rfl rfl rfl (fun b23 => (b23 ((zbo_eq0 : (zbo False) = 0 ↔ ¬ False).mpr trivial)).elim) (fun b23 => ?_)
      refine zv_c1 ht22 rfl rfl ?_
      refine zv_ei (x := zbo (bt 9 a)) ht22 rfl rfl (zhas_nc hcx (by decide)) hmixedx ?_
      have J25 : zEv (d - 1) 286 73 [.ref n, .ref x, .retAddr 0] [.int (zbo (bt 9 a)), .ref n] (sI (sI (sI (sI (sI (sI (sI (sI (sI (sI S 145 n 1) 147 n 0) 148 n (zbo (bt 1 a))) 149 n 1) 150 n 1) 151 n (zbo (bt 4 a))) 152 n (zbo (bt 5 a))) 153 n 0) 154 n (zbo (bt 6 a))) 155 n (zbo (bt 8 a))) pst20 := by
        refine zv_ci (S' := sI (sI (sI (sI (sI (sI (sI (sI (sI (sI (sI S 145 n 1) 147 n 0) 148 n (zbo (bt 1 a))) 149 n 1) 150 n 1) 151 n (zbo (bt 4 a))) 152 n (zbo (bt 5 a))) 153 n 0) 154 n (zbo (bt 6 a))) 155 n (zbo (bt 8 a))) 156 n (zbo (bt 9 a))) ht22 rfl rfl ⟨⟨(zhas_of (htn) rfl), (show n < gN S from by omega)⟩, zbo_rng⟩ ?_
        refine zv_c1 ht22 rfl rfl (zv_c1 ht22 rfl rfl ?_)
        refine zv_ei (x := 0) ht22 rfl rfl (zhas_of (htn) rfl) ht0 ?_
        refine zv_c1 ht22 rfl rfl ?_
        refine zv_ei (x := tx) ht22 rfl rfl (zhas_nc hcx (by decide)) htx ?_
        refine zv_c1 (st' := [.int ((0 : Int32) ||| tx), .ref n]) (S' := sI (sI (sI (sI (sI (sI (sI (sI (sI (sI (sI S 145 n 1) 147 n 0) 148 n (zbo (bt 1 a))) 149 n 1) 150 n 1) 151 n (zbo (bt 4 a))) 152 n (zbo (bt 5 a))) 153 n 0) 154 n (zbo (bt 6 a))) 155 n (zbo (bt 8 a))) 156 n (zbo (bt 9 a))) ht22 rfl rfl ?_
        refine zv_ci (S' := sI (sI (sI (sI (sI (sI (sI (sI (sI (sI (sI (sI S 145 n 1) 147 n 0) 148 n (zbo (bt 1 a))) 149 n 1) 150 n 1) 151 n (zbo (bt 4 a))) 152 n (zbo (bt 5 a))) 153 n 0) 154 n (zbo (bt 6 a))) 155 n (zbo (bt 8 a))) 156 n (zbo (bt 9 a))) 146 n ((0 : Int32) ||| tx)) ht22 rfl rfl ⟨(zhas_of (htn) rfl), (show n < gN S from by omega)⟩ ?_
        exact zv_rt ht22 rfl rfl rfl rfl k27
      refine zv_br ht22 rfl rfl rfl (fun b24 => ?_) (fun b24 => ?_)
      · replace b24 : ¬ (bt 9 a) := (zbo_eq0 : (zbo (bt 9 a)) = 0 ↔ ¬ (bt 9 a)).mp b24
        refine zv_c1 ht22 rfl rfl ?_
        exact zEv.wk (L := [.ref n, .ref x, .retAddr 0]) (L' := [.ref n, .ref x, .int 0]) (And.intro (Or.inl rfl) (And.intro (Or.inl rfl) (And.intro (Or.inr rfl) trivial))) (zv_sub (zz := zbo (bt 9 a)) (zy := 0) (p := fun zz => zEv (d - 1) 286 73 [.ref n, .ref x, .retAddr 0] [.int zz, .ref n] (sI (sI (sI (sI (sI (sI (sI (sI (sI (sI S 145 n 1) 147 n 0) 148 n (zbo (bt 1 a))) 149 n 1) 150 n 1) 151 n (zbo (bt 4 a))) 152 n (zbo (bt 5 a))) 153 n 0) 154 n (zbo (bt 6 a))) 155 n (zbo (bt 8 a))) pst20) (zbo_neg b24) J25)
      · replace b24 : bt 9 a := Classical.byContradiction (fun h => b24 ((zbo_eq0 : (zbo (bt 9 a)) = 0 ↔ ¬ (bt 9 a)).mpr h))
        refine zv_c1 ht22 rfl rfl (zv_c1 ht22 rfl rfl ?_)
        exact zEv.wk (L := [.ref n, .ref x, .retAddr 0]) (L' := [.ref n, .ref x, .int 0]) (And.intro (Or.inl rfl) (And.intro (Or.inl rfl) (And.intro (Or.inr rfl) trivial))) (zv_sub (zz := zbo (bt 9 a)) (zy := 1) (p := fun zz => zEv (d - 1) 286 73 [.ref n, .ref x, .retAddr 0] [.int zz, .ref n] (sI (sI (sI (sI (sI (sI (sI (sI (sI (sI S 145 n 1) 147 n 0) 148 n (zbo (bt 1 a))) 149 n 1) 150 n 1) 151 n (zbo (bt 4 a))) 152 n (zbo (bt 5 a))) 153 n 0) 154 n (zbo (bt 6 a))) 155 n (zbo (bt 8 a))) pst20) (zbo_pos b24) J25)
    refine zv_cl ht rfl rfl rfl (zv_tgv (htn) rfl) (by omega) (Nat.le_of_ble_eq_true rfl) (C21 _ ?_)
    show zEv d 293 388 [.ref n] [] (sI (sI (sI (sI (sI (sI (sI (sI (sI (sI (sI (sI S 145 n 1) 147 n 0) 148 n (zbo (bt 1 a))) 149 n 1) 150 n 1) 151 n (zbo (bt 4 a))) 152 n (zbo (bt 5 a))) 153 n 0) 154 n (zbo (bt 6 a))) 155 n (zbo (bt 8 a))) 156 n (zbo (bt 9 a))) 146 n ((0 : Int32) ||| tx)) post
    exact zv_rt ht rfl rfl rfl rfl (h1 b11)
  · replace b11 : ¬ (((p + 1) = 1) ∧ (bt 2 a)) := (zbo_eq0 : (zbo (((p + 1) = 1) ∧ (bt 2 a))) = 0 ↔ ¬ (((p + 1) = 1) ∧ (bt 2 a))).mp (Classical.not_not.mp b11)
    refine zv_c1 ht rfl rfl ?_
    have C29 : ∀ (pst28 : Outcome × zS → Prop), (pst28 (.returned (some (.ref (gN S))), sI (sI (sT (sNew S 8 0 (zslots 8)) (gN S) 8 1) 136 (gN S) 3) 137 (gN S) (gI S 144 n))) → zCall (d - 1) 283 [.ref n] S pst28 := by
      intro pst28 k35
      have ht30 : ztab 283 = ztb283 := rfl
      show zEv (d - 1) 283 0 [.ref n] [] S pst28
      refine zv_ci (st' := [.ref (gN S)]) (S' := sNew S 8 0 (zslots 8)) ht30 rfl rfl (znew_ok (show 1639 ≤ gN S from by omega) (show gN S < 2000000 from by omega)) ?_
      refine zv_c1 ht30 rfl rfl (zv_c1 ht30 rfl rfl (zv_c1 ht30 rfl rfl ?_))
      refine zv_ei (x := gI S 144 n) ht30 rfl rfl (zhas_of (Eq.trans (ztyp_new (S := S) (t := 8) (n := 0) (s := zslots 8) (show n ≠ gN S from by omega)) htn) rfl) (gI_new (S := S) (t := 8) (n := 0) (s := zslots 8) (show n ≠ gN S from by omega)) ?_
      have C32 : ∀ (pst31 : Outcome × zS → Prop), (pst31 (.returned none, sI (sI (sT (sNew S 8 0 (zslots 8)) (gN S) 8 1) 136 (gN S) 3) 137 (gN S) (gI S 144 n))) → zCall ((d - 1) - 1) 269 [.ref (gN S), .int 3, .int (gI S 144 n)] (sNew S 8 0 (zslots 8)) pst31 := by
        intro pst31 k34
        have ht33 : ztab 269 = ztb269 := rfl
        show zEv ((d - 1) - 1) 269 0 [.ref (gN S), .int 3, .int (gI S 144 n)] [] (sNew S 8 0 (zslots 8)) pst31
        refine zv_c1 ht33 rfl rfl ?_
        refine zv_ci (S' := sT (sNew S 8 0 (zslots 8)) (gN S) 8 1) ht33 rfl rfl ⟨ztyp_new_at (S := S) (t := 8) (n := 0) (s := zslots 8) (show 1639 ≤ gN S from by omega), (show gN S < gN S + 1 from by omega), zlen_new_at (S := S) (t := 8) (n := 0) (s := zslots 8) (show 1639 ≤ gN S from by omega)⟩ ?_
        refine zv_c1 ht33 rfl rfl (zv_c1 ht33 rfl rfl ?_)
        refine zv_ci (S' := sI (sT (sNew S 8 0 (zslots 8)) (gN S) 8 1) 136 (gN S) 3) ht33 rfl rfl ⟨⟨(zhas_of (ztyp_sT1 (show 1639 ≤ gN S from by omega)) rfl), (show gN S < gN S + 1 from by omega)⟩, zlen_sT1 (show 1639 ≤ gN S from by omega)⟩ ?_
        refine zv_c1 ht33 rfl rfl (zv_c1 ht33 rfl rfl ?_)
        refine zv_ci (S' := sI (sI (sT (sNew S 8 0 (zslots 8)) (gN S) 8 1) 136 (gN S) 3) 137 (gN S) (gI S 144 n)) ht33 rfl rfl ⟨⟨(zhas_of (ztyp_sT1 (show 1639 ≤ gN S from by omega)) rfl), (show gN S < gN S + 1 from by omega)⟩, zlen_sT1 (show 1639 ≤ gN S from by omega)⟩ ?_
        exact zv_rt ht33 rfl rfl rfl rfl k34
      refine zv_cl ht30 rfl rfl rfl rfl (by omega) (Nat.le_of_ble_eq_true rfl) (C32 _ ?_)
      show zEv (d - 1) 283 12 [.ref n] [.ref (gN S)] (sI (sI (sT (sNew S 8 0 (zslots 8)) (gN S) 8 1) 136 (gN S) 3) 137 (gN S) (gI S 144 n)) pst28
      exact zv_rt ht30 rfl rfl rfl rfl k35
    refine zv_cl ht rfl rfl rfl (zv_tgv (htn) rfl) (by omega) (Nat.le_of_ble_eq_true rfl) (C29 _ ?_)
    show zEv d 293 11 [.ref n] [.ref (gN S)] (sI (sI (sT (sNew S 8 0 (zslots 8)) (gN S) 8 1) 136 (gN S) 3) 137 (gN S) (gI S 144 n)) post
    exact zv_th ht rfl rfl rfl ⟨ztyp_sT1 (show 1639 ≤ gN S from by omega), (show gN S < gN S + 1 from by omega)⟩ rfl (h2 b11)

theorem wj_25 {d : Nat} {S : zS} (hF : zFin true S) (hd : 2 ≤ d) (n x : Nat) (p a tx : Int32) (hn0 : 1639 ≤ n) (hn : n < gN S) (hx : x < gN S) (hxn : x ≠ n) (hcx : zNc (ztyp S x) = true) (hN2 : gN S < 1900000) (htn : ztyp S n = 11) (how : gI S 160 n = Int32.ofNat 110) (hpx : gP S 161 n = some x) (hbx : gI S 145 x = p + 1) (hzx : gI S 147 x = zbo (bt 0 a)) (hox : gI S 148 x = zbo (bt 1 a)) (hnx : gI S 149 x = zbo (bt 2 a)) (hdx : gI S 150 x = zbo (bt 3 a)) (hux : gI S 151 x = zbo (bt 4 a)) (hsx : gI S 152 x = zbo (bt 5 a)) (hfx : gI S 153 x = zbo (bt 6 a)) (hex : gI S 154 x = zbo (bt 7 a)) (hmx : gI S 155 x = zbo (bt 8 a)) (hmixedx : gI S 156 x = zbo (bt 9 a)) (htx : gI S 146 x = tx) (hm0 : gI S 156 n = zbo False) (ht0 : gI S 146 n = 0) {post : Outcome × zS → Prop} (h1 : ((p + 1) = 1) → post (.returned none, sI (sI (sI (sI (sI (sI (sI (sI (sI (sI (sI (sI S 145 n 1) 147 n (zbo (bt 0 a))) 148 n (zbo (bt 1 a))) 149 n (zbo (bt 2 a))) 150 n (zbo (bt 3 a))) 151 n 1) 152 n (zbo (bt 5 a))) 153 n (zbo (bt 6 a))) 154 n (zbo (bt 7 a))) 155 n (zbo (bt 8 a))) 156 n (zbo (bt 9 a))) 146 n ((0 : Int32) ||| tx))) (h2 : (¬ ((p + 1) = 1)) → post (.threw (gN S), sI (sI (sT (sNew S 8 0 (zslots 8)) (gN S) 8 1) 136 (gN S) 3) 137 (gN S) (gI S 144 n))) : zCall d 293 [.ref n] S post := by
  have ht : ztab 293 = ztb293 := rfl
  show zEv d 293 0 [.ref n] [] S post
  refine zv_c1 ht rfl rfl ?_
  have C2 : ∀ (pst1 : Outcome × zS → Prop), (pst1 (.returned (some (.int (zbo ((p + 1) = 1)))), S)) → zCall (d - 1) 294 [.ref n] S pst1 := by
    intro pst1 k7
    have ht3 : ztab 294 = ztb294 := rfl
    show zEv (d - 1) 294 0 [.ref n] [] S pst1
    refine zv_c1 ht3 rfl rfl ?_
    refine zv_ei (x := 110) ht3 rfl rfl (zhas_of (htn) rfl) how ?_
    refine zv_sw ht3 rfl rfl rfl rfl rfl ?_
    refine And.intro (fun h => absurd h (by decide)) (fun _ => ?_)
    refine And.intro (fun h => absurd h (by decide)) (fun _ => ?_)
    refine And.intro (fun h => absurd h (by decide)) (fun _ => ?_)
    refine And.intro (fun _ => ?_) (fun h => absurd (by decide) h)
    refine zv_c1 ht3 rfl rfl ?_
    refine zv_g3 (q := x) ht3 rfl hF rfl rfl (zhas_of (htn) rfl) hpx ?_
    refine zv_ei (x := p + 1) ht3 rfl rfl (zhas_nc hcx (by decide)) hbx ?_
    refine zv_c1 ht3 rfl rfl ?_
    have J5 : zEv (d - 1) 294 80 [.retAddr 0] [.int (zbo ((p + 1) = 1))] S pst1 := by
      exact zv_rc ht3 rfl rfl rfl rfl zbo_rng k7
    refine zv_br ht3 rfl rfl rfl (fun b4 => ?_) (fun b4 => ?_)
    · refine zv_c1 ht3 rfl rfl ?_
      exact zEv.wk (L := [.retAddr 0]) (L' := [.ref n]) (And.intro (Or.inr rfl) trivial) (zv_sub (zz := zbo ((p + 1) = 1)) (zy := 0) (p := fun zz => zEv (d - 1) 294 80 [.retAddr 0] [.int zz] S pst1) (zbo_neg b4) J5)
    · replace b4 : (p + 1) = 1 := Classical.not_not.mp b4
      refine zv_c1 ht3 rfl rfl (zv_c1 ht3 rfl rfl ?_)
      exact zEv.wk (L := [.retAddr 0]) (L' := [.ref n]) (And.intro (Or.inr rfl) trivial) (zv_sub (zz := zbo ((p + 1) = 1)) (zy := 1) (p := fun zz => zEv (d - 1) 294 80 [.retAddr 0] [.int zz] S pst1) (zbo_pos b4) J5)
  refine zv_cl ht rfl rfl rfl (zv_tgv (htn) rfl) (by omega) (Nat.le_of_ble_eq_true rfl) (C2 _ ?_)
  show zEv d 293 4 [.ref n] [.int (zbo ((p + 1) = 1))] S post
  refine zv_br ht rfl rfl rfl (fun b8 => ?_) (fun b8 => ?_)
  · replace b8 : (p + 1) = 1 := Classical.byContradiction (fun h => b8 ((zbo_eq0 : (zbo ((p + 1) = 1)) = 0 ↔ ¬ ((p + 1) = 1)).mpr h))
    refine zv_c1 ht rfl rfl ?_
    refine zv_ei (x := 110) ht rfl rfl (zhas_of (htn) rfl) how ?_
    refine zv_sw ht rfl rfl rfl rfl rfl ?_
    refine And.intro (fun h => absurd h (by decide)) (fun _ => ?_)
    refine And.intro (fun h => absurd h (by decide)) (fun _ => ?_)
    refine And.intro (fun h => absurd h (by decide)) (fun _ => ?_)
    refine And.intro (fun h => absurd h (by decide)) (fun _ => ?_)
    refine And.intro (fun h => absurd h (by decide)) (fun _ => ?_)
    refine And.intro (fun h => absurd h (by decide)) (fun _ => ?_)
    refine zv_c1 ht rfl rfl (zv_c1 ht rfl rfl (zv_c1 ht rfl rfl ?_))
    refine zv_g3 (q := x) ht rfl hF rfl rfl (zhas_of (htn) rfl) hpx ?_
    refine zv_ei (x := zbo (bt 0 a)) ht rfl rfl (zhas_nc hcx (by decide)) hzx ?_
    refine zv_c1 ht rfl rfl ?_
    refine zv_g3 (q := x) ht rfl hF rfl rfl (zhas_of (htn) rfl) hpx ?_
    refine zv_ei (x := zbo (bt 1 a)) ht rfl rfl (zhas_nc hcx (by decide)) hox ?_
    refine zv_c1 ht rfl rfl ?_
    refine zv_g3 (q := x) ht rfl hF rfl rfl (zhas_of (htn) rfl) hpx ?_
    refine zv_ei (x := zbo (bt 2 a)) ht rfl rfl (zhas_nc hcx (by decide)) hnx ?_
    refine zv_c1 ht rfl rfl ?_
    refine zv_g3 (q := x) ht rfl hF rfl rfl (zhas_of (htn) rfl) hpx ?_
    refine zv_ei (x := zbo (bt 3 a)) ht rfl rfl (zhas_nc hcx (by decide)) hdx ?_
    refine zv_c1 ht rfl rfl ?_
    have C10 : ∀ (pst9 : Outcome × zS → Prop), (pst9 (.returned none, sI (sI (sI (sI (sI (sI S 145 n 1) 147 n (zbo (bt 0 a))) 148 n (zbo (bt 1 a))) 149 n (zbo (bt 2 a))) 150 n (zbo (bt 3 a))) 151 n 1)) → zCall (d - 1) 284 [.ref n, .int 1, .int (zbo (bt 0 a)), .int (zbo (bt 1 a)), .int (zbo (bt 2 a)), .int (zbo (bt 3 a)), .int 1] S pst9 := by
      intro pst9 k12
      have ht11 : ztab 284 = ztb284 := rfl
      show zEv (d - 1) 284 0 [.ref n, .int 1, .int (zbo (bt 0 a)), .int (zbo (bt 1 a)), .int (zbo (bt 2 a)), .int (zbo (bt 3 a)), .int 1] [] S pst9
      refine zv_c1 ht11 rfl rfl (zv_c1 ht11 rfl rfl ?_)
      refine zv_ci (S' := sI S 145 n 1) ht11 rfl rfl ⟨(zhas_of (htn) rfl), (show n < gN S from by omega)⟩ ?_
      refine zv_c1 ht11 rfl rfl (zv_c1 ht11 rfl rfl ?_)
      refine zv_ci (S' := sI (sI S 145 n 1) 147 n (zbo (bt 0 a))) ht11 rfl rfl ⟨⟨(zhas_of (htn) rfl), (show n < gN S from by omega)⟩, zbo_rng⟩ ?_
      refine zv_c1 ht11 rfl rfl (zv_c1 ht11 rfl rfl ?_)
      refine zv_ci (S' := sI (sI (sI S 145 n 1) 147 n (zbo (bt 0 a))) 148 n (zbo (bt 1 a))) ht11 rfl rfl ⟨⟨(zhas_of (htn) rfl), (show n < gN S from by omega)⟩, zbo_rng⟩ ?_
      refine zv_c1 ht11 rfl rfl (zv_c1 ht11 rfl rfl ?_)
      refine zv_ci (S' := sI (sI (sI (sI S 145 n 1) 147 n (zbo (bt 0 a))) 148 n (zbo (bt 1 a))) 149 n (zbo (bt 2 a))) ht11 rfl rfl ⟨⟨(zhas_of (htn) rfl), (show n < gN S from by omega)⟩, zbo_rng⟩ ?_
      refine zv_c1 ht11 rfl rfl (zv_c1 ht11 rfl rfl ?_)
      refine zv_ci (S' := sI (sI (sI (sI (sI S 145 n 1) 147 n (zbo (bt 0 a))) 148 n (zbo (bt 1 a))) 149 n (zbo (bt 2 a))) 150 n (zbo (bt 3 a))) ht11 rfl rfl ⟨⟨(zhas_of (htn) rfl), (show n < gN S from by omega)⟩, zbo_rng⟩ ?_
      refine zv_c1 ht11 rfl rfl (zv_c1 ht11 rfl rfl ?_)
      refine zv_ci (S' := sI (sI (sI (sI (sI (sI S 145 n 1) 147 n (zbo (bt 0 a))) 148 n (zbo (bt 1 a))) 149 n (zbo (bt 2 a))) 150 n (zbo (bt 3 a))) 151 n 1) ht11 rfl rfl ⟨⟨(zhas_of (htn) rfl), (show n < gN S from by omega)⟩, (by decide)⟩ ?_
      exact zv_rt ht11 rfl rfl rfl rfl k12
    refine zv_cl ht rfl rfl rfl (zv_tgv (htn) rfl) (by omega) (Nat.le_of_ble_eq_true rfl) (C10 _ ?_)
    show zEv d 293 235 [.ref n] [] (sI (sI (sI (sI (sI (sI S 145 n 1) 147 n (zbo (bt 0 a))) 148 n (zbo (bt 1 a))) 149 n (zbo (bt 2 a))) 150 n (zbo (bt 3 a))) 151 n 1) post
    refine zv_c1 ht rfl rfl ?_
    refine zv_ei (x := 110) ht rfl rfl (zhas_of (htn) rfl) how ?_
    refine zv_sw ht rfl rfl rfl rfl rfl ?_
    refine And.intro (fun h => absurd h (by decide)) (fun _ => ?_)
    refine And.intro (fun h => absurd h (by decide)) (fun _ => ?_)
    refine And.intro (fun h => absurd h (by decide)) (fun _ => ?_)
    refine zv_c1 ht rfl rfl (zv_c1 ht rfl rfl ?_)
    refine zv_g3 (q := x) ht rfl hF rfl rfl (zhas_of (htn) rfl) hpx ?_
    refine zv_ei (x := zbo (bt 5 a)) ht rfl rfl (zhas_nc hcx (by decide)) hsx ?_
    refine zv_c1 ht rfl rfl ?_
    refine zv_g3 (q := x) ht rfl hF rfl rfl (zhas_of (htn) rfl) hpx ?_
    refine zv_ei (x := zbo (bt 6 a)) ht rfl rfl (zhas_nc hcx (by decide)) hfx ?_
    refine zv_c1 ht rfl rfl ?_
    refine zv_g3 (q := x) ht rfl hF rfl rfl (zhas_of (htn) rfl) hpx ?_
    refine zv_ei (x := zbo (bt 7 a)) ht rfl rfl (zhas_nc hcx (by decide)) hex ?_
    refine zv_c1 ht rfl rfl ?_
    refine zv_g3 (q := x) ht rfl hF rfl rfl (zhas_of (htn) rfl) hpx ?_
    refine zv_ei (x := zbo (bt 8 a)) ht rfl rfl (zhas_nc hcx (by decide)) hmx ?_
    have C14 : ∀ (pst13 : Outcome × zS → Prop), (pst13 (.returned none, sI (sI (sI (sI (sI (sI (sI (sI (sI (sI S 145 n 1) 147 n (zbo (bt 0 a))) 148 n (zbo (bt 1 a))) 149 n (zbo (bt 2 a))) 150 n (zbo (bt 3 a))) 151 n 1) 152 n (zbo (bt 5 a))) 153 n (zbo (bt 6 a))) 154 n (zbo (bt 7 a))) 155 n (zbo (bt 8 a)))) → zCall (d - 1) 285 [.ref n, .int (zbo (bt 5 a)), .int (zbo (bt 6 a)), .int (zbo (bt 7 a)), .int (zbo (bt 8 a))] (sI (sI (sI (sI (sI (sI S 145 n 1) 147 n (zbo (bt 0 a))) 148 n (zbo (bt 1 a))) 149 n (zbo (bt 2 a))) 150 n (zbo (bt 3 a))) 151 n 1) pst13 := by
      intro pst13 k16
      have ht15 : ztab 285 = ztb285 := rfl
      show zEv (d - 1) 285 0 [.ref n, .int (zbo (bt 5 a)), .int (zbo (bt 6 a)), .int (zbo (bt 7 a)), .int (zbo (bt 8 a))] [] (sI (sI (sI (sI (sI (sI S 145 n 1) 147 n (zbo (bt 0 a))) 148 n (zbo (bt 1 a))) 149 n (zbo (bt 2 a))) 150 n (zbo (bt 3 a))) 151 n 1) pst13
      refine zv_c1 ht15 rfl rfl (zv_c1 ht15 rfl rfl ?_)
      refine zv_ci (S' := sI (sI (sI (sI (sI (sI (sI S 145 n 1) 147 n (zbo (bt 0 a))) 148 n (zbo (bt 1 a))) 149 n (zbo (bt 2 a))) 150 n (zbo (bt 3 a))) 151 n 1) 152 n (zbo (bt 5 a))) ht15 rfl rfl ⟨⟨(zhas_of (htn) rfl), (show n < gN S from by omega)⟩, zbo_rng⟩ ?_
      refine zv_c1 ht15 rfl rfl (zv_c1 ht15 rfl rfl ?_)
      refine zv_ci (S' := sI (sI (sI (sI (sI (sI (sI (sI S 145 n 1) 147 n (zbo (bt 0 a))) 148 n (zbo (bt 1 a))) 149 n (zbo (bt 2 a))) 150 n (zbo (bt 3 a))) 151 n 1) 152 n (zbo (bt 5 a))) 153 n (zbo (bt 6 a))) ht15 rfl rfl ⟨⟨(zhas_of (htn) rfl), (show n < gN S from by omega)⟩, zbo_rng⟩ ?_
      refine zv_c1 ht15 rfl rfl (zv_c1 ht15 rfl rfl ?_)
      refine zv_ci (S' := sI (sI (sI (sI (sI (sI (sI (sI (sI S 145 n 1) 147 n (zbo (bt 0 a))) 148 n (zbo (bt 1 a))) 149 n (zbo (bt 2 a))) 150 n (zbo (bt 3 a))) 151 n 1) 152 n (zbo (bt 5 a))) 153 n (zbo (bt 6 a))) 154 n (zbo (bt 7 a))) ht15 rfl rfl ⟨⟨(zhas_of (htn) rfl), (show n < gN S from by omega)⟩, zbo_rng⟩ ?_
      refine zv_c1 ht15 rfl rfl (zv_c1 ht15 rfl rfl ?_)
      refine zv_ci (S' := sI (sI (sI (sI (sI (sI (sI (sI (sI (sI S 145 n 1) 147 n (zbo (bt 0 a))) 148 n (zbo (bt 1 a))) 149 n (zbo (bt 2 a))) 150 n (zbo (bt 3 a))) 151 n 1) 152 n (zbo (bt 5 a))) 153 n (zbo (bt 6 a))) 154 n (zbo (bt 7 a))) 155 n (zbo (bt 8 a))) ht15 rfl rfl ⟨⟨(zhas_of (htn) rfl), (show n < gN S from by omega)⟩, zbo_rng⟩ ?_
      exact zv_rt ht15 rfl rfl rfl rfl k16
    refine zv_cl ht rfl rfl rfl (zv_tgv (htn) rfl) (by omega) (Nat.le_of_ble_eq_true rfl) (C14 _ ?_)
    show zEv d 293 379 [.ref n] [] (sI (sI (sI (sI (sI (sI (sI (sI (sI (sI S 145 n 1) 147 n (zbo (bt 0 a))) 148 n (zbo (bt 1 a))) 149 n (zbo (bt 2 a))) 150 n (zbo (bt 3 a))) 151 n 1) 152 n (zbo (bt 5 a))) 153 n (zbo (bt 6 a))) 154 n (zbo (bt 7 a))) 155 n (zbo (bt 8 a))) post
    refine zv_c1 ht rfl rfl (zv_c1 ht rfl rfl ?_)
    refine zv_g3 (q := x) ht rfl hF rfl rfl (zhas_of (htn) rfl) hpx ?_
    refine zv_c1 ht rfl rfl ?_
    have C18 : ∀ (pst17 : Outcome × zS → Prop), (pst17 (.returned none, sI (sI (sI (sI (sI (sI (sI (sI (sI (sI (sI (sI S 145 n 1) 147 n (zbo (bt 0 a))) 148 n (zbo (bt 1 a))) 149 n (zbo (bt 2 a))) 150 n (zbo (bt 3 a))) 151 n 1) 152 n (zbo (bt 5 a))) 153 n (zbo (bt 6 a))) 154 n (zbo (bt 7 a))) 155 n (zbo (bt 8 a))) 156 n (zbo (bt 9 a))) 146 n ((0 : Int32) ||| tx))) → zCall (d - 1) 286 [.ref n, .ref x, .int 0] (sI (sI (sI (sI (sI (sI (sI (sI (sI (sI S 145 n 1) 147 n (zbo (bt 0 a))) 148 n (zbo (bt 1 a))) 149 n (zbo (bt 2 a))) 150 n (zbo (bt 3 a))) 151 n 1) 152 n (zbo (bt 5 a))) 153 n (zbo (bt 6 a))) 154 n (zbo (bt 7 a))) 155 n (zbo (bt 8 a))) pst17 := by
      intro pst17 k24
      have ht19 : ztab 286 = ztb286 := rfl
      show zEv (d - 1) 286 0 [.ref n, .ref x, .int 0] [] (sI (sI (sI (sI (sI (sI (sI (sI (sI (sI S 145 n 1) 147 n (zbo (bt 0 a))) 148 n (zbo (bt 1 a))) 149 n (zbo (bt 2 a))) 150 n (zbo (bt 3 a))) 151 n 1) 152 n (zbo (bt 5 a))) 153 n (zbo (bt 6 a))) 154 n (zbo (bt 7 a))) 155 n (zbo (bt 8 a))) pst17
      refine zv_c1 ht19 rfl rfl ?_
      refine zv_br ht19 rfl rfl rfl (fun _ => ?_) (fun h => absurd (by decide) h)
      refine zv_c1 ht19 rfl rfl (zv_c1 ht19 rfl rfl ?_)
      refine zv_ei (x := zbo False) ht19 rfl rfl (zhas_of (htn) rfl) hm0 ?_
      refine zv_br ht19 rfl rfl rfl (fun b20 => (b20 ((zbo_eq0 : (zbo False) = 0 ↔ ¬ False).mpr trivial)).elim) (fun b20 => ?_)
      refine zv_c1 ht19 rfl rfl ?_
      refine zv_ei (x := zbo (bt 9 a)) ht19 rfl rfl (zhas_nc hcx (by decide)) hmixedx ?_
      have J22 : zEv (d - 1) 286 73 [.ref n, .ref x, .retAddr 0] [.int (zbo (bt 9 a)), .ref n] (sI (sI (sI (sI (sI (sI (sI (sI (sI (sI S 145 n 1) 147 n (zbo (bt 0 a))) 148 n (zbo (bt 1 a))) 149 n (zbo (bt 2 a))) 150 n (zbo (bt 3 a))) 151 n 1) 152 n (zbo (bt 5 a))) 153 n (zbo (bt 6 a))) 154 n (zbo (bt 7 a))) 155 n (zbo (bt 8 a))) pst17 := by
        refine zv_ci (S' := sI (sI (sI (sI (sI (sI (sI (sI (sI (sI (sI S 145 n 1) 147 n (zbo (bt 0 a))) 148 n (zbo (bt 1 a))) 149 n (zbo (bt 2 a))) 150 n (zbo (bt 3 a))) 151 n 1) 152 n (zbo (bt 5 a))) 153 n (zbo (bt 6 a))) 154 n (zbo (bt 7 a))) 155 n (zbo (bt 8 a))) 156 n (zbo (bt 9 a))) ht19 rfl rfl ⟨⟨(zhas_of (htn) rfl), (show n < gN S from by omega)⟩, zbo_rng⟩ ?_
        refine zv_c1 ht19 rfl rfl (zv_c1 ht19 rfl rfl ?_)
        refine zv_ei (x := 0) ht19 rfl rfl (zhas_of (htn) rfl) ht0 ?_
        refine zv_c1 ht19 rfl rfl ?_
        refine zv_ei (x := tx) ht19 rfl rfl (zhas_nc hcx (by decide)) htx ?_
        refine zv_c1 (st' := [.int ((0 : Int32) ||| tx), .ref n]) (S' := sI (sI (sI (sI (sI (sI (sI (sI (sI (sI (sI S 145 n 1) 147 n (zbo (bt 0 a))) 148 n (zbo (bt 1 a))) 149 n (zbo (bt 2 a))) 150 n (zbo (bt 3 a))) 151 n 1) 152 n (zbo (bt 5 a))) 153 n (zbo (bt 6 a))) 154 n (zbo (bt 7 a))) 155 n (zbo (bt 8 a))) 156 n (zbo (bt 9 a))) ht19 rfl rfl ?_
        refine zv_ci (S' := sI (sI (sI (sI (sI (sI (sI (sI (sI (sI (sI (sI S 145 n 1) 147 n (zbo (bt 0 a))) 148 n (zbo (bt 1 a))) 149 n (zbo (bt 2 a))) 150 n (zbo (bt 3 a))) 151 n 1) 152 n (zbo (bt 5 a))) 153 n (zbo (bt 6 a))) 154 n (zbo (bt 7 a))) 155 n (zbo (bt 8 a))) 156 n (zbo (bt 9 a))) 146 n ((0 : Int32) ||| tx)) ht19 rfl rfl ⟨(zhas_of (htn) rfl), (show n < gN S from by omega)⟩ ?_
        exact zv_rt ht19 rfl rfl rfl rfl k24
      refine zv_br ht19 rfl rfl rfl (fun b21 => ?_) (fun b21 => ?_)
      · replace b21 : ¬ (bt 9 a) := (zbo_eq0 : (zbo (bt 9 a)) = 0 ↔ ¬ (bt 9 a)).mp b21
        refine zv_c1 ht19 rfl rfl ?_
        exact zEv.wk (L := [.ref n, .ref x, .retAddr 0]) (L' := [.ref n, .ref x, .int 0]) (And.intro (Or.inl rfl) (And.intro (Or.inl rfl) (And.intro (Or.inr rfl) trivial))) (zv_sub (zz := zbo (bt 9 a)) (zy := 0) (p := fun zz => zEv (d - 1) 286 73 [.ref n, .ref x, .retAddr 0] [.int zz, .ref n] (sI (sI (sI (sI (sI (sI (sI (sI (sI (sI S 145 n 1) 147 n (zbo (bt 0 a))) 148 n (zbo (bt 1 a))) 149 n (zbo (bt 2 a))) 150 n (zbo (bt 3 a))) 151 n 1) 152 n (zbo (bt 5 a))) 153 n (zbo (bt 6 a))) 154 n (zbo (bt 7 a))) 155 n (zbo (bt 8 a))) pst17) (zbo_neg b21) J22)
      · replace b21 : bt 9 a := Classical.byContradiction (fun h => b21 ((zbo_eq0 : (zbo (bt 9 a)) = 0 ↔ ¬ (bt 9 a)).mpr h))
        refine zv_c1 ht19 rfl rfl (zv_c1 ht19 rfl rfl ?_)
        exact zEv.wk (L := [.ref n, .ref x, .retAddr 0]) (L' := [.ref n, .ref x, .int 0]) (And.intro (Or.inl rfl) (And.intro (Or.inl rfl) (And.intro (Or.inr rfl) trivial))) (zv_sub (zz := zbo (bt 9 a)) (zy := 1) (p := fun zz => zEv (d - 1) 286 73 [.ref n, .ref x, .retAddr 0] [.int zz, .ref n] (sI (sI (sI (sI (sI (sI (sI (sI (sI (sI S 145 n 1) 147 n (zbo (bt 0 a))) 148 n (zbo (bt 1 a))) 149 n (zbo (bt 2 a))) 150 n (zbo (bt 3 a))) 151 n 1) 152 n (zbo (bt 5 a))) 153 n (zbo (bt 6 a))) 154 n (zbo (bt 7 a))) 155 n (zbo (bt 8 a))) pst17) (zbo_pos b21) J22)
    refine zv_cl ht rfl rfl rfl (zv_tgv (htn) rfl) (by omega) (Nat.le_of_ble_eq_true rfl) (C18 _ ?_)
    show zEv d 293 388 [.ref n] [] (sI (sI (sI (sI (sI (sI (sI (sI (sI (sI (sI (sI S 145 n 1) 147 n (zbo (bt 0 a))) 148 n (zbo (bt 1 a))) 149 n (zbo (bt 2 a))) 150 n (zbo (bt 3 a))) 151 n 1) 152 n (zbo (bt 5 a))) 153 n (zbo (bt 6 a))) 154 n (zbo (bt 7 a))) 155 n (zbo (bt 8 a))) 156 n (zbo (bt 9 a))) 146 n ((0 : Int32) ||| tx)) post
    exact zv_rt ht rfl rfl rfl rfl (h1 b8)
  · replace b8 : ¬ ((p + 1) = 1) := (zbo_eq0 : (zbo ((p + 1) = 1)) = 0 ↔ ¬ ((p + 1) = 1)).mp (Classical.not_not.mp b8)
    refine zv_c1 ht rfl rfl ?_
    have C26 : ∀ (pst25 : Outcome × zS → Prop), (pst25 (.returned (some (.ref (gN S))), sI (sI (sT (sNew S 8 0 (zslots 8)) (gN S) 8 1) 136 (gN S) 3) 137 (gN S) (gI S 144 n))) → zCall (d - 1) 283 [.ref n] S pst25 := by
      intro pst25 k32
      have ht27 : ztab 283 = ztb283 := rfl
      show zEv (d - 1) 283 0 [.ref n] [] S pst25
      refine zv_ci (st' := [.ref (gN S)]) (S' := sNew S 8 0 (zslots 8)) ht27 rfl rfl (znew_ok (show 1639 ≤ gN S from by omega) (show gN S < 2000000 from by omega)) ?_
      refine zv_c1 ht27 rfl rfl (zv_c1 ht27 rfl rfl (zv_c1 ht27 rfl rfl ?_))
      refine zv_ei (x := gI S 144 n) ht27 rfl rfl (zhas_of (Eq.trans (ztyp_new (S := S) (t := 8) (n := 0) (s := zslots 8) (show n ≠ gN S from by omega)) htn) rfl) (gI_new (S := S) (t := 8) (n := 0) (s := zslots 8) (show n ≠ gN S from by omega)) ?_
      have C29 : ∀ (pst28 : Outcome × zS → Prop), (pst28 (.returned none, sI (sI (sT (sNew S 8 0 (zslots 8)) (gN S) 8 1) 136 (gN S) 3) 137 (gN S) (gI S 144 n))) → zCall ((d - 1) - 1) 269 [.ref (gN S), .int 3, .int (gI S 144 n)] (sNew S 8 0 (zslots 8)) pst28 := by
        intro pst28 k31
        have ht30 : ztab 269 = ztb269 := rfl
        show zEv ((d - 1) - 1) 269 0 [.ref (gN S), .int 3, .int (gI S 144 n)] [] (sNew S 8 0 (zslots 8)) pst28
        refine zv_c1 ht30 rfl rfl ?_
        refine zv_ci (S' := sT (sNew S 8 0 (zslots 8)) (gN S) 8 1) ht30 rfl rfl ⟨ztyp_new_at (S := S) (t := 8) (n := 0) (s := zslots 8) (show 1639 ≤ gN S from by omega), (show gN S < gN S + 1 from by omega), zlen_new_at (S := S) (t := 8) (n := 0) (s := zslots 8) (show 1639 ≤ gN S from by omega)⟩ ?_
        refine zv_c1 ht30 rfl rfl (zv_c1 ht30 rfl rfl ?_)
        refine zv_ci (S' := sI (sT (sNew S 8 0 (zslots 8)) (gN S) 8 1) 136 (gN S) 3) ht30 rfl rfl ⟨⟨(zhas_of (ztyp_sT1 (show 1639 ≤ gN S from by omega)) rfl), (show gN S < gN S + 1 from by omega)⟩, zlen_sT1 (show 1639 ≤ gN S from by omega)⟩ ?_
        refine zv_c1 ht30 rfl rfl (zv_c1 ht30 rfl rfl ?_)
        refine zv_ci (S' := sI (sI (sT (sNew S 8 0 (zslots 8)) (gN S) 8 1) 136 (gN S) 3) 137 (gN S) (gI S 144 n)) ht30 rfl rfl ⟨⟨(zhas_of (ztyp_sT1 (show 1639 ≤ gN S from by omega)) rfl), (show gN S < gN S + 1 from by omega)⟩, zlen_sT1 (show 1639 ≤ gN S from by omega)⟩ ?_
        exact zv_rt ht30 rfl rfl rfl rfl k31
      refine zv_cl ht27 rfl rfl rfl rfl (by omega) (Nat.le_of_ble_eq_true rfl) (C29 _ ?_)
      show zEv (d - 1) 283 12 [.ref n] [.ref (gN S)] (sI (sI (sT (sNew S 8 0 (zslots 8)) (gN S) 8 1) 136 (gN S) 3) 137 (gN S) (gI S 144 n)) pst25
      exact zv_rt ht27 rfl rfl rfl rfl k32
    refine zv_cl ht rfl rfl rfl (zv_tgv (htn) rfl) (by omega) (Nat.le_of_ble_eq_true rfl) (C26 _ ?_)
    show zEv d 293 11 [.ref n] [.ref (gN S)] (sI (sI (sT (sNew S 8 0 (zslots 8)) (gN S) 8 1) 136 (gN S) 3) 137 (gN S) (gI S 144 n)) post
    exact zv_th ht rfl rfl rfl ⟨ztyp_sT1 (show 1639 ≤ gN S from by omega), (show gN S < gN S + 1 from by omega)⟩ rfl (h2 b8)

theorem aj_ {d : Nat} {S : zS} (hF : zFin true S) (hd : 2 ≤ d) (n x y w : Nat) (p q t a b c tx ty tw : Int32) (hn0 : 1639 ≤ n) (hn : n < gN S) (hx : x < gN S) (hxn : x ≠ n) (hy : y < gN S) (hyn : y ≠ n) (hw : w < gN S) (hwn : w ≠ n) (hcx : zNc (ztyp S x) = true) (hcy : zNc (ztyp S y) = true) (hcw : zNc (ztyp S w) = true) (hN2 : gN S < 1900000) (htn : ztyp S n = 19) (hpx : gP S 183 n = some x) (hpy : gP S 184 n = some y) (hpw : gP S 185 n = some w) (hbx : gI S 145 x = p + 1) (hzx : gI S 147 x = zbo (bt 0 a)) (hox : gI S 148 x = zbo (bt 1 a)) (hnx : gI S 149 x = zbo (bt 2 a)) (hdx : gI S 150 x = zbo (bt 3 a)) (hux : gI S 151 x = zbo (bt 4 a)) (hsx : gI S 152 x = zbo (bt 5 a)) (hfx : gI S 153 x = zbo (bt 6 a)) (hex : gI S 154 x = zbo (bt 7 a)) (hmx : gI S 155 x = zbo (bt 8 a)) (hmixedx : gI S 156 x = zbo (bt 9 a)) (htx : gI S 146 x = tx) (hby : gI S 145 y = q + 1) (hzy : gI S 147 y = zbo (bt 0 b)) (hoy : gI S 148 y = zbo (bt 1 b)) (hny : gI S 149 y = zbo (bt 2 b)) (hdy : gI S 150 y = zbo (bt 3 b)) (huy : gI S 151 y = zbo (bt 4 b)) (hsy : gI S 152 y = zbo (bt 5 b)) (hfy : gI S 153 y = zbo (bt 6 b)) (hey : gI S 154 y = zbo (bt 7 b)) (hmy : gI S 155 y = zbo (bt 8 b)) (hmixedy : gI S 156 y = zbo (bt 9 b)) (hty : gI S 146 y = ty) (hbw : gI S 145 w = t + 1) (hzw : gI S 147 w = zbo (bt 0 c)) (how : gI S 148 w = zbo (bt 1 c)) (hnw : gI S 149 w = zbo (bt 2 c)) (hdw : gI S 150 w = zbo (bt 3 c)) (huw : gI S 151 w = zbo (bt 4 c)) (hsw : gI S 152 w = zbo (bt 5 c)) (hfw : gI S 153 w = zbo (bt 6 c)) (hew : gI S 154 w = zbo (bt 7 c)) (hmw : gI S 155 w = zbo (bt 8 c)) (hmixedw : gI S 156 w = zbo (bt 9 c)) (htw : gI S 146 w = tw) (hm0 : gI S 156 n = zbo False) (ht0 : gI S 146 n = 0) {post : Outcome × zS → Prop} (h1 : (((p + 1) = 1) ∧ (bt 3 a) ∧ (bt 4 a)) → (((q + 1) = (t + 1)) ∧ (¬ ((t + 1) = 4))) → post (.returned none, sI (sI (sI (sI (sI (sI (sI (sI (sI (sI (sI (sI (sI (sI (sI (sI (sI S 145 n (q + 1)) 147 n (zbo ((bt 0 a) ∧ (bt 0 b) ∧ (bt 0 c)))) 148 n (zbo (((bt 0 a) ∧ (bt 1 b) ∧ (bt 1 c)) ∨ ((bt 1 a) ∧ (bt 0 b) ∧ (bt 0 c))))) 149 n 0) 150 n (zbo (bt 3 c))) 151 n (zbo ((bt 4 b) ∧ (bt 4 c)))) 152 n (zbo ((bt 5 c) ∧ ((bt 5 a) ∨ (bt 5 b))))) 153 n (zbo ((bt 6 c) ∧ ((bt 5 a) ∨ (bt 6 b))))) 154 n (zbo ((bt 7 c) ∧ ((bt 5 a) ∨ (bt 6 b))))) 155 n (zbo ((bt 8 a) ∧ (bt 8 b) ∧ (bt 8 c) ∧ (bt 7 a) ∧ ((bt 5 a) ∨ (bt 5 b) ∨ (bt 5 c))))) 156 n (zbo (bt 9 a))) 146 n ((0 : Int32) ||| tx)) 156 n (zbo ((bt 9 a) ∨ (((¬ ((((0 : Int32) ||| tx) &&& (1 : Int32)) = 0)) ∧ (¬ ((ty &&& (2 : Int32)) = 0))) ∨ ((¬ ((((0 : Int32) ||| tx) &&& (2 : Int32)) = 0)) ∧ (¬ ((ty &&& (1 : Int32)) = 0)))) ∨ ((¬ ((((0 : Int32) ||| tx) &&& (4 : Int32)) = 0)) ∧ (¬ ((ty &&& (8 : Int32)) = 0))) ∨ ((¬ ((((0 : Int32) ||| tx) &&& (8 : Int32)) = 0)) ∧ (¬ ((ty &&& (4 : Int32)) = 0)))))) 156 n (zbo (((bt 9 a) ∨ (((¬ ((((0 : Int32) ||| tx) &&& (1 : Int32)) = 0)) ∧ (¬ ((ty &&& (2 : Int32)) = 0))) ∨ ((¬ ((((0 : Int32) ||| tx) &&& (2 : Int32)) = 0)) ∧ (¬ ((ty &&& (1 : Int32)) = 0)))) ∨ ((¬ ((((0 : Int32) ||| tx) &&& (4 : Int32)) = 0)) ∧ (¬ ((ty &&& (8 : Int32)) = 0))) ∨ ((¬ ((((0 : Int32) ||| tx) &&& (8 : Int32)) = 0)) ∧ (¬ ((ty &&& (4 : Int32)) = 0)))) ∨ (bt 9 b)))) 146 n (((0 : Int32) ||| tx) ||| ty)) 156 n (zbo ((((bt 9 a) ∨ (((¬ ((((0 : Int32) ||| tx) &&& (1 : Int32)) = 0)) ∧ (¬ ((ty &&& (2 : Int32)) = 0))) ∨ ((¬ ((((0 : Int32) ||| tx) &&& (2 : Int32)) = 0)) ∧ (¬ ((ty &&& (1 : Int32)) = 0)))) ∨ ((¬ ((((0 : Int32) ||| tx) &&& (4 : Int32)) = 0)) ∧ (¬ ((ty &&& (8 : Int32)) = 0))) ∨ ((¬ ((((0 : Int32) ||| tx) &&& (8 : Int32)) = 0)) ∧ (¬ ((ty &&& (4 : Int32)) = 0)))) ∨ (bt 9 b)) ∨ (bt 9 c)))) 146 n ((((0 : Int32) ||| tx) ||| ty) ||| tw))) (h2 : ((¬ (((p + 1) = 1) ∧ (bt 3 a) ∧ (bt 4 a))) ∨ (¬ (((q + 1) = (t + 1)) ∧ (¬ ((t + 1) = 4))))) → post (.threw (gN S), sI (sI (sT (sNew S 8 0 (zslots 8)) (gN S) 8 1) 136 (gN S) 3) 137 (gN S) (gI S 144 n))) : zCall d 360 [.ref n] S post := by
  have ht : ztab 360 = ztb360 := rfl
  show zEv d 360 0 [.ref n] [] S post
  refine zv_c1 ht rfl rfl ?_
  refine zv_g3 (q := x) ht rfl hF rfl rfl (zhas_of (htn) rfl) hpx ?_
  have C2 : ∀ (pst1 : Outcome × zS → Prop), (pst1 (.returned (some (.int (zbo (((p + 1) = 1) ∧ (bt 3 a) ∧ (bt 4 a))))), S)) → zCall (d - 1) 281 [.ref x] S pst1 := by
    intro pst1 k11
    have ht3 : ztab 281 = ztb281 := rfl
    show zEv (d - 1) 281 0 [.ref x] [] S pst1
    refine zv_c1 ht3 rfl rfl ?_
    refine zv_ei (x := p + 1) ht3 rfl rfl (zhas_nc hcx (by decide)) hbx ?_
    refine zv_c1 ht3 rfl rfl ?_
    have J9 : zEv (d - 1) 281 27 [.retAddr 0] [.int (zbo (((p + 1) = 1) ∧ (bt 3 a) ∧ (bt 4 a)))] S pst1 := by
      exact zv_rc ht3 rfl rfl rfl rfl zbo_rng k11
    have J7 : ((¬ ((p + 1) = 1)) ∨ (¬ (bt 3 a)) ∨ (¬ (bt 4 a))) → zEv (d - 1) 281 26 [.retAddr 0] [] S pst1 := by
      intro b8
      refine zv_c1 ht3 rfl rfl ?_
      exact (zv_sub (zz := zbo (((p + 1) = 1) ∧ (bt 3 a) ∧ (bt 4 a))) (zy := 0) (p := fun zz => zEv (d - 1) 281 27 [.retAddr 0] [.int zz] S pst1) (zbo_neg (b8.elim (fun y1 => (fun h => y1 h.1)) (fun y1 => (y1.elim (fun y2 => (fun h => (fun h => y2 h.1) h.2)) (fun y2 => (fun h => (fun h => y2 h.2) h.2)))))) J9)
    refine zv_br ht3 rfl rfl rfl (fun b4 => ?_) (fun b4 => ?_)
    · exact zEv.wk (L := [.retAddr 0]) (L' := [.ref x]) (And.intro (Or.inr rfl) trivial) (J7 (Or.inl b4))
    · replace b4 : (p + 1) = 1 := Classical.not_not.mp b4
      refine zv_c1 ht3 rfl rfl ?_
      refine zv_ei (x := zbo (bt 3 a)) ht3 rfl rfl (zhas_nc hcx (by decide)) hdx ?_
      refine zv_br ht3 rfl rfl rfl (fun b5 => ?_) (fun b5 => ?_)
      · replace b5 : ¬ (bt 3 a) := (zbo_eq0 : (zbo (bt 3 a)) = 0 ↔ ¬ (bt 3 a)).mp b5
        exact zEv.wk (L := [.retAddr 0]) (L' := [.ref x]) (And.intro (Or.inr rfl) trivial) (J7 (Or.inr (Or.inl b5)))
      · replace b5 : bt 3 a := Classical.byContradiction (fun h => b5 ((zbo_eq0 : (zbo (bt 3 a)) = 0 ↔ ¬ (bt 3 a)).mpr h))
        refine zv_c1 ht3 rfl rfl ?_
        refine zv_ei (x := zbo (bt 4 a)) ht3 rfl rfl (zhas_nc hcx (by decide)) hux ?_
        refine zv_br ht3 rfl rfl rfl (fun b6 => ?_) (fun b6 => ?_)
        · replace b6 : ¬ (bt 4 a) := (zbo_eq0 : (zbo (bt 4 a)) = 0 ↔ ¬ (bt 4 a)).mp b6
          exact zEv.wk (L := [.retAddr 0]) (L' := [.ref x]) (And.intro (Or.inr rfl) trivial) (J7 (Or.inr (Or.inr b6)))
        · replace b6 : bt 4 a := Classical.byContradiction (fun h => b6 ((zbo_eq0 : (zbo (bt 4 a)) = 0 ↔ ¬ (bt 4 a)).mpr h))
          refine zv_c1 ht3 rfl rfl (zv_c1 ht3 rfl rfl ?_)
          exact zEv.wk (L := [.retAddr 0]) (L' := [.ref x]) (And.intro (Or.inr rfl) trivial) (zv_sub (zz := zbo (((p + 1) = 1) ∧ (bt 3 a) ∧ (bt 4 a))) (zy := 1) (p := fun zz => zEv (d - 1) 281 27 [.retAddr 0] [.int zz] S pst1) (zbo_pos ⟨b4, ⟨b5, b6⟩⟩) J9)
  refine zv_cl ht rfl rfl rfl (zv_tgA hcx (by decide)) (by omega) (Nat.le_of_ble_eq_true rfl) (C2 _ ?_)
  show zEv d 360 7 [.ref n] [.int (zbo (((p + 1) = 1) ∧ (bt 3 a) ∧ (bt 4 a)))] S post
  have J167 : ((¬ (((p + 1) = 1) ∧ (bt 3 a) ∧ (bt 4 a))) ∨ (¬ (((q + 1) = (t + 1)) ∧ (¬ ((t + 1) = 4))))) → zEv d 360 38 [.ref n] [] S post := by
    intro b168
    refine zv_c1 ht rfl rfl ?_
    have C170 : ∀ (pst169 : Outcome × zS → Prop), (pst169 (.returned (some (.ref (gN S))), sI (sI (sT (sNew S 8 0 (zslots 8)) (gN S) 8 1) 136 (gN S) 3) 137 (gN S) (gI S 144 n))) → zCall (d - 1) 283 [.ref n] S pst169 := by
      intro pst169 k176
      have ht171 : ztab 283 = ztb283 := rfl
      show zEv (d - 1) 283 0 [.ref n] [] S pst169
      refine zv_ci (st' := [.ref (gN S)]) (S' := sNew S 8 0 (zslots 8)) ht171 rfl rfl (znew_ok (show 1639 ≤ gN S from by omega) (show gN S < 2000000 from by omega)) ?_
      refine zv_c1 ht171 rfl rfl (zv_c1 ht171 rfl rfl (zv_c1 ht171 rfl rfl ?_))
      refine zv_ei (x := gI S 144 n) ht171 rfl rfl (zhas_of (Eq.trans (ztyp_new (S := S) (t := 8) (n := 0) (s := zslots 8) (show n ≠ gN S from by omega)) htn) rfl) (gI_new (S := S) (t := 8) (n := 0) (s := zslots 8) (show n ≠ gN S from by omega)) ?_
      have C173 : ∀ (pst172 : Outcome × zS → Prop), (pst172 (.returned none, sI (sI (sT (sNew S 8 0 (zslots 8)) (gN S) 8 1) 136 (gN S) 3) 137 (gN S) (gI S 144 n))) → zCall ((d - 1) - 1) 269 [.ref (gN S), .int 3, .int (gI S 144 n)] (sNew S 8 0 (zslots 8)) pst172 := by
        intro pst172 k175
        have ht174 : ztab 269 = ztb269 := rfl
        show zEv ((d - 1) - 1) 269 0 [.ref (gN S), .int 3, .int (gI S 144 n)] [] (sNew S 8 0 (zslots 8)) pst172
        refine zv_c1 ht174 rfl rfl ?_
        refine zv_ci (S' := sT (sNew S 8 0 (zslots 8)) (gN S) 8 1) ht174 rfl rfl ⟨ztyp_new_at (S := S) (t := 8) (n := 0) (s := zslots 8) (show 1639 ≤ gN S from by omega), (show gN S < gN S + 1 from by omega), zlen_new_at (S := S) (t := 8) (n := 0) (s := zslots 8) (show 1639 ≤ gN S from by omega)⟩ ?_
        refine zv_c1 ht174 rfl rfl (zv_c1 ht174 rfl rfl ?_)
        refine zv_ci (S' := sI (sT (sNew S 8 0 (zslots 8)) (gN S) 8 1) 136 (gN S) 3) ht174 rfl rfl ⟨⟨(zhas_of (ztyp_sT1 (show 1639 ≤ gN S from by omega)) rfl), (show gN S < gN S + 1 from by omega)⟩, zlen_sT1 (show 1639 ≤ gN S from by omega)⟩ ?_
        refine zv_c1 ht174 rfl rfl (zv_c1 ht174 rfl rfl ?_)
        refine zv_ci (S' := sI (sI (sT (sNew S 8 0 (zslots 8)) (gN S) 8 1) 136 (gN S) 3) 137 (gN S) (gI S 144 n)) ht174 rfl rfl ⟨⟨(zhas_of (ztyp_sT1 (show 1639 ≤ gN S from by omega)) rfl), (show gN S < gN S + 1 from by omega)⟩, zlen_sT1 (show 1639 ≤ gN S from by omega)⟩ ?_
        exact zv_rt ht174 rfl rfl rfl rfl k175
      refine zv_cl ht171 rfl rfl rfl rfl (by omega) (Nat.le_of_ble_eq_true rfl) (C173 _ ?_)
      show zEv (d - 1) 283 12 [.ref n] [.ref (gN S)] (sI (sI (sT (sNew S 8 0 (zslots 8)) (gN S) 8 1) 136 (gN S) 3) 137 (gN S) (gI S 144 n)) pst169
      exact zv_rt ht171 rfl rfl rfl rfl k176
    refine zv_cl ht rfl rfl rfl (zv_tgv (htn) rfl) (by omega) (Nat.le_of_ble_eq_true rfl) (C170 _ ?_)
    show zEv d 360 42 [.ref n] [.ref (gN S)] (sI (sI (sT (sNew S 8 0 (zslots 8)) (gN S) 8 1) 136 (gN S) 3) 137 (gN S) (gI S 144 n)) post
    exact zv_th ht rfl rfl rfl ⟨ztyp_sT1 (show 1639 ≤ gN S from by omega), (show gN S < gN S + 1 from by omega)⟩ rfl (h2 b168)
  refine zv_br ht rfl rfl rfl (fun b12 => ?_) (fun b12 => ?_)
  · replace b12 : ¬ (((p + 1) = 1) ∧ (bt 3 a) ∧ (bt 4 a)) := (zbo_eq0 : (zbo (((p + 1) = 1) ∧ (bt 3 a) ∧ (bt 4 a))) = 0 ↔ ¬ (((p + 1) = 1) ∧ (bt 3 a) ∧ (bt 4 a))).mp b12
    exact (J167 (Or.inl b12))
  · replace b12 : ((p + 1) = 1) ∧ (bt 3 a) ∧ (bt 4 a) := Classical.byContradiction (fun h => b12 ((zbo_eq0 : (zbo (((p + 1) = 1) ∧ (bt 3 a) ∧ (bt 4 a))) = 0 ↔ ¬ (((p + 1) = 1) ∧ (bt 3 a) ∧ (bt 4 a))).mpr h))
    refine zv_c1 ht rfl rfl ?_
    refine zv_g3 (q := y) ht rfl hF rfl rfl (zhas_of (htn) rfl) hpy ?_
    refine zv_c1 ht rfl rfl ?_
    refine zv_g3 (q := w) ht rfl hF rfl rfl (zhas_of (htn) rfl) hpw ?_
    refine zv_ei (x := t + 1) ht rfl rfl (zhas_nc hcw (by decide)) hbw ?_
    have C14 : ∀ (pst13 : Outcome × zS → Prop), (pst13 (.returned (some (.int (zbo (((q + 1) = (t + 1)) ∧ (¬ ((t + 1) = 4)))))), S)) → zCall (d - 1) 282 [.ref y, .int (t + 1)] S pst13 := by
      intro pst13 k22
      have ht15 : ztab 282 = ztb282 := rfl
      show zEv (d - 1) 282 0 [.ref y, .int (t + 1)] [] S pst13
      refine zv_c1 ht15 rfl rfl ?_
      refine zv_ei (x := q + 1) ht15 rfl rfl (zhas_nc hcy (by decide)) hby ?_
      refine zv_c1 ht15 rfl rfl ?_
      have J20 : zEv (d - 1) 282 18 [.retAddr 0, .retAddr 0] [.int (zbo (((q + 1) = (t + 1)) ∧ (¬ ((t + 1) = 4))))] S pst13 := by
        exact zv_rc ht15 rfl rfl rfl rfl zbo_rng k22
      have J18 : ((¬ ((q + 1) = (t + 1))) ∨ ((t + 1) = 4)) → zEv (d - 1) 282 17 [.retAddr 0, .retAddr 0] [] S pst13 := by
        intro b19
        refine zv_c1 ht15 rfl rfl ?_
        exact (zv_sub (zz := zbo (((q + 1) = (t + 1)) ∧ (¬ ((t + 1) = 4)))) (zy := 0) (p := fun zz => zEv (d - 1) 282 18 [.retAddr 0, .retAddr 0] [.int zz] S pst13) (zbo_neg (b19.elim (fun y1 => (fun h => y1 h.1)) (fun y1 => (fun h => (fun h => h y1) h.2)))) J20)
      refine zv_br ht15 rfl rfl rfl (fun b16 => ?_) (fun b16 => ?_)
      · exact zEv.wk (L := [.retAddr 0, .retAddr 0]) (L' := [.ref y, .int (t + 1)]) (And.intro (Or.inr rfl) (And.intro (Or.inr rfl) trivial)) (J18 (Or.inl b16))
      · replace b16 : (q + 1) = (t + 1) := Classical.not_not.mp b16
        refine zv_c1 ht15 rfl rfl (zv_c1 ht15 rfl rfl ?_)
        refine zv_br ht15 rfl rfl rfl (fun b17 => ?_) (fun b17 => ?_)
        · exact zEv.wk (L := [.retAddr 0, .retAddr 0]) (L' := [.ref y, .int (t + 1)]) (And.intro (Or.inr rfl) (And.intro (Or.inr rfl) trivial)) (J18 (Or.inr b17))
        · refine zv_c1 ht15 rfl rfl (zv_c1 ht15 rfl rfl ?_)
          exact zEv.wk (L := [.retAddr 0, .retAddr 0]) (L' := [.ref y, .int (t + 1)]) (And.intro (Or.inr rfl) (And.intro (Or.inr rfl) trivial)) (zv_sub (zz := zbo (((q + 1) = (t + 1)) ∧ (¬ ((t + 1) = 4)))) (zy := 1) (p := fun zz => zEv (d - 1) 282 18 [.retAddr 0, .retAddr 0] [.int zz] S pst13) (zbo_pos ⟨b16, b17⟩) J20)
    refine zv_cl ht rfl rfl rfl (zv_tgA hcy (by decide)) (by omega) (Nat.le_of_ble_eq_true rfl) (C14 _ ?_)
    show zEv d 360 24 [.ref n] [.int (zbo (((q + 1) = (t + 1)) ∧ (¬ ((t + 1) = 4))))] S post
    refine zv_br ht rfl rfl rfl (fun b23 => ?_) (fun b23 => ?_)
    · replace b23 : ¬ (((q + 1) = (t + 1)) ∧ (¬ ((t + 1) = 4))) := (zbo_eq0 : (zbo (((q + 1) = (t + 1)) ∧ (¬ ((t + 1) = 4)))) = 0 ↔ ¬ (((q + 1) = (t + 1)) ∧ (¬ ((t + 1) = 4)))).mp b23
      exact (J167 (Or.inr b23))
    · replace b23 : ((q + 1) = (t + 1)) ∧ (¬ ((t + 1) = 4)) := Classical.byContradiction (fun h => b23 ((zbo_eq0 : (zbo (((q + 1) = (t + 1)) ∧ (¬ ((t + 1) = 4)))) = 0 ↔ ¬ (((q + 1) = (t + 1)) ∧ (¬ ((t + 1) = 4)))).mpr h))
      refine zv_c1 ht rfl rfl ?_
      refine zv_g3 (q := w) ht rfl hF rfl rfl (zhas_of (htn) rfl) hpw ?_
      refine zv_ei (x := t + 1) ht rfl rfl (zhas_nc hcw (by decide)) hbw ?_
      refine zv_c1 ht rfl rfl ?_
      refine zv_br ht rfl rfl rfl (fun b24 => ?_) (fun b24 => (b24 b23.2).elim)
      refine zv_c1 ht rfl rfl (zv_c1 ht rfl rfl ?_)
      refine zv_g3 (q := y) ht rfl hF rfl rfl (zhas_of (htn) rfl) hpy ?_
      refine zv_ei (x := q + 1) ht rfl rfl (zhas_nc hcy (by decide)) hby ?_
      refine zv_c1 ht rfl rfl ?_
      refine zv_g3 (q := x) ht rfl hF rfl rfl (zhas_of (htn) rfl) hpx ?_
      refine zv_ei (x := zbo (bt 0 a)) ht rfl rfl (zhas_nc hcx (by decide)) hzx ?_
      have J30 : zEv d 360 86 [.ref n] [.int (zbo ((bt 0 a) ∧ (bt 0 b) ∧ (bt 0 c))), .int (q + 1), .ref n] S post := by
        refine zv_c1 ht rfl rfl ?_
        refine zv_g3 (q := x) ht rfl hF rfl rfl (zhas_of (htn) rfl) hpx ?_
        refine zv_ei (x := zbo (bt 0 a)) ht rfl rfl (zhas_nc hcx (by decide)) hzx ?_
        have J44 : zEv d 360 151 [.ref n] [.int (zbo (((bt 0 a) ∧ (bt 1 b) ∧ (bt 1 c)) ∨ ((bt 1 a) ∧ (bt 0 b) ∧ (bt 0 c)))), .int (zbo ((bt 0 a) ∧ (bt 0 b) ∧ (bt 0 c))), .int (q + 1), .ref n] S post := by
          refine zv_c1 ht rfl rfl (zv_c1 ht rfl rfl ?_)
          refine zv_g3 (q := w) ht rfl hF rfl rfl (zhas_of (htn) rfl) hpw ?_
          refine zv_ei (x := zbo (bt 3 c)) ht rfl rfl (zhas_nc hcw (by decide)) hdw ?_
          refine zv_c1 ht rfl rfl ?_
          refine zv_g3 (q := y) ht rfl hF rfl rfl (zhas_of (htn) rfl) hpy ?_
          refine zv_ei (x := zbo (bt 4 b)) ht rfl rfl (zhas_nc hcy (by decide)) huy ?_
          have J50 : zEv d 360 184 [.ref n] [.int (zbo ((bt 4 b) ∧ (bt 4 c))), .int (zbo (bt 3 c)), .int 0, .int (zbo (((bt 0 a) ∧ (bt 1 b) ∧ (bt 1 c)) ∨ ((bt 1 a) ∧ (bt 0 b) ∧ (bt 0 c)))), .int (zbo ((bt 0 a) ∧ (bt 0 b) ∧ (bt 0 c))), .int (q + 1), .ref n] S post := by
            have C53 : ∀ (pst52 : Outcome × zS → Prop), (pst52 (.returned none, sI (sI (sI (sI (sI (sI S 145 n (q + 1)) 147 n (zbo ((bt 0 a) ∧ (bt 0 b) ∧ (bt 0 c)))) 148 n (zbo (((bt 0 a) ∧ (bt 1 b) ∧ (bt 1 c)) ∨ ((bt 1 a) ∧ (bt 0 b) ∧ (bt 0 c))))) 149 n 0) 150 n (zbo (bt 3 c))) 151 n (zbo ((bt 4 b) ∧ (bt 4 c))))) → zCall (d - 1) 284 [.ref n, .int (q + 1), .int (zbo ((bt 0 a) ∧ (bt 0 b) ∧ (bt 0 c))), .int (zbo (((bt 0 a) ∧ (bt 1 b) ∧ (bt 1 c)) ∨ ((bt 1 a) ∧ (bt 0 b) ∧ (bt 0 c)))), .int 0, .int (zbo (bt 3 c)), .int (zbo ((bt 4 b) ∧ (bt 4 c)))] S pst52 := by
              intro pst52 k55
              have ht54 : ztab 284 = ztb284 := rfl
              show zEv (d - 1) 284 0 [.ref n, .int (q + 1), .int (zbo ((bt 0 a) ∧ (bt 0 b) ∧ (bt 0 c))), .int (zbo (((bt 0 a) ∧ (bt 1 b) ∧ (bt 1 c)) ∨ ((bt 1 a) ∧ (bt 0 b) ∧ (bt 0 c)))), .int 0, .int (zbo (bt 3 c)), .int (zbo ((bt 4 b) ∧ (bt 4 c)))] [] S pst52
              refine zv_c1 ht54 rfl rfl (zv_c1 ht54 rfl rfl ?_)
              refine zv_ci (S' := sI S 145 n (q + 1)) ht54 rfl rfl ⟨(zhas_of (htn) rfl), (show n < gN S from by omega)⟩ ?_
              refine zv_c1 ht54 rfl rfl (zv_c1 ht54 rfl rfl ?_)
              refine zv_ci (S' := sI (sI S 145 n (q + 1)) 147 n (zbo ((bt 0 a) ∧ (bt 0 b) ∧ (bt 0 c)))) ht54 rfl rfl ⟨⟨(zhas_of (htn) rfl), (show n < gN S from by omega)⟩, zbo_rng⟩ ?_
              refine zv_c1 ht54 rfl rfl (zv_c1 ht54 rfl rfl ?_)
              refine zv_ci (S' := sI (sI (sI S 145 n (q + 1)) 147 n (zbo ((bt 0 a) ∧ (bt 0 b) ∧ (bt 0 c)))) 148 n (zbo (((bt 0 a) ∧ (bt 1 b) ∧ (bt 1 c)) ∨ ((bt 1 a) ∧ (bt 0 b) ∧ (bt 0 c))))) ht54 rfl rfl ⟨⟨(zhas_of (htn) rfl), (show n < gN S from by omega)⟩, zbo_rng⟩ ?_
              refine zv_c1 ht54 rfl rfl (zv_c1 ht54 rfl rfl ?_)
              refine zv_ci (S' := sI (sI (sI (sI S 145 n (q + 1)) 147 n (zbo ((bt 0 a) ∧ (bt 0 b) ∧ (bt 0 c)))) 148 n (zbo (((bt 0 a) ∧ (bt 1 b) ∧ (bt 1 c)) ∨ ((bt 1 a) ∧ (bt 0 b) ∧ (bt 0 c))))) 149 n 0) ht54 rfl rfl ⟨⟨(zhas_of (htn) rfl), (show n < gN S from by omega)⟩, (by decide)⟩ ?_
              refine zv_c1 ht54 rfl rfl (zv_c1 ht54 rfl rfl ?_)
              refine zv_ci (S' := sI (sI (sI (sI (sI S 145 n (q + 1)) 147 n (zbo ((bt 0 a) ∧ (bt 0 b) ∧ (bt 0 c)))) 148 n (zbo (((bt 0 a) ∧ (bt 1 b) ∧ (bt 1 c)) ∨ ((bt 1 a) ∧ (bt 0 b) ∧ (bt 0 c))))) 149 n 0) 150 n (zbo (bt 3 c))) ht54 rfl rfl ⟨⟨(zhas_of (htn) rfl), (show n < gN S from by omega)⟩, zbo_rng⟩ ?_
              refine zv_c1 ht54 rfl rfl (zv_c1 ht54 rfl rfl ?_)
              refine zv_ci (S' := sI (sI (sI (sI (sI (sI S 145 n (q + 1)) 147 n (zbo ((bt 0 a) ∧ (bt 0 b) ∧ (bt 0 c)))) 148 n (zbo (((bt 0 a) ∧ (bt 1 b) ∧ (bt 1 c)) ∨ ((bt 1 a) ∧ (bt 0 b) ∧ (bt 0 c))))) 149 n 0) 150 n (zbo (bt 3 c))) 151 n (zbo ((bt 4 b) ∧ (bt 4 c)))) ht54 rfl rfl ⟨⟨(zhas_of (htn) rfl), (show n < gN S from by omega)⟩, zbo_rng⟩ ?_
              exact zv_rt ht54 rfl rfl rfl rfl k55
            refine zv_cl ht rfl rfl rfl (zv_tgv (htn) rfl) (by omega) (Nat.le_of_ble_eq_true rfl) (C53 _ ?_)
            show zEv d 360 187 [.ref n] [] (sI (sI (sI (sI (sI (sI S 145 n (q + 1)) 147 n (zbo ((bt 0 a) ∧ (bt 0 b) ∧ (bt 0 c)))) 148 n (zbo (((bt 0 a) ∧ (bt 1 b) ∧ (bt 1 c)) ∨ ((bt 1 a) ∧ (bt 0 b) ∧ (bt 0 c))))) 149 n 0) 150 n (zbo (bt 3 c))) 151 n (zbo ((bt 4 b) ∧ (bt 4 c)))) post
            refine zv_c1 ht rfl rfl (zv_c1 ht rfl rfl ?_)
            refine zv_g3 (q := w) ht rfl hF rfl rfl (zhas_of (htn) rfl) hpw ?_
            refine zv_ei (x := zbo (bt 5 c)) ht rfl rfl (zhas_nc hcw (by decide)) hsw ?_
            have J63 : zEv d 360 223 [.ref n] [.int (zbo ((bt 5 c) ∧ ((bt 5 a) ∨ (bt 5 b)))), .ref n] (sI (sI (sI (sI (sI (sI S 145 n (q + 1)) 147 n (zbo ((bt 0 a) ∧ (bt 0 b) ∧ (bt 0 c)))) 148 n (zbo (((bt 0 a) ∧ (bt 1 b) ∧ (bt 1 c)) ∨ ((bt 1 a) ∧ (bt 0 b) ∧ (bt 0 c))))) 149 n 0) 150 n (zbo (bt 3 c))) 151 n (zbo ((bt 4 b) ∧ (bt 4 c)))) post := by
              refine zv_c1 ht rfl rfl ?_
              refine zv_g3 (q := w) ht rfl hF rfl rfl (zhas_of (htn) rfl) hpw ?_
              refine zv_ei (x := zbo (bt 6 c)) ht rfl rfl (zhas_nc hcw (by decide)) hfw ?_
              have J72 : zEv d 360 258 [.ref n] [.int (zbo ((bt 6 c) ∧ ((bt 5 a) ∨ (bt 6 b)))), .int (zbo ((bt 5 c) ∧ ((bt 5 a) ∨ (bt 5 b)))), .ref n] (sI (sI (sI (sI (sI (sI S 145 n (q + 1)) 147 n (zbo ((bt 0 a) ∧ (bt 0 b) ∧ (bt 0 c)))) 148 n (zbo (((bt 0 a) ∧ (bt 1 b) ∧ (bt 1 c)) ∨ ((bt 1 a) ∧ (bt 0 b) ∧ (bt 0 c))))) 149 n 0) 150 n (zbo (bt 3 c))) 151 n (zbo ((bt 4 b) ∧ (bt 4 c)))) post := by
                refine zv_c1 ht rfl rfl ?_
                refine zv_g3 (q := w) ht rfl hF rfl rfl (zhas_of (htn) rfl) hpw ?_
                refine zv_ei (x := zbo (bt 7 c)) ht rfl rfl (zhas_nc hcw (by decide)) hew ?_
                have J81 : zEv d 360 293 [.ref n] [.int (zbo ((bt 7 c) ∧ ((bt 5 a) ∨ (bt 6 b)))), .int (zbo ((bt 6 c) ∧ ((bt 5 a) ∨ (bt 6 b)))), .int (zbo ((bt 5 c) ∧ ((bt 5 a) ∨ (bt 5 b)))), .ref n] (sI (sI (sI (sI (sI (sI S 145 n (q + 1)) 147 n (zbo ((bt 0 a) ∧ (bt 0 b) ∧ (bt 0 c)))) 148 n (zbo (((bt 0 a) ∧ (bt 1 b) ∧ (bt 1 c)) ∨ ((bt 1 a) ∧ (bt 0 b) ∧ (bt 0 c))))) 149 n 0) 150 n (zbo (bt 3 c))) 151 n (zbo ((bt 4 b) ∧ (bt 4 c)))) post := by
                  refine zv_c1 ht rfl rfl ?_
                  refine zv_g3 (q := x) ht rfl hF rfl rfl (zhas_of (htn) rfl) hpx ?_
                  refine zv_ei (x := zbo (bt 8 a)) ht rfl rfl (zhas_nc hcx (by decide)) hmx ?_
                  have J94 : zEv d 360 368 [.ref n] [.int (zbo ((bt 8 a) ∧ (bt 8 b) ∧ (bt 8 c) ∧ (bt 7 a) ∧ ((bt 5 a) ∨ (bt 5 b) ∨ (bt 5 c)))), .int (zbo ((bt 7 c) ∧ ((bt 5 a) ∨ (bt 6 b)))), .int (zbo ((bt 6 c) ∧ ((bt 5 a) ∨ (bt 6 b)))), .int (zbo ((bt 5 c) ∧ ((bt 5 a) ∨ (bt 5 b)))), .ref n] (sI (sI (sI (sI (sI (sI S 145 n (q + 1)) 147 n (zbo ((bt 0 a) ∧ (bt 0 b) ∧ (bt 0 c)))) 148 n (zbo (((bt 0 a) ∧ (bt 1 b) ∧ (bt 1 c)) ∨ ((bt 1 a) ∧ (bt 0 b) ∧ (bt 0 c))))) 149 n 0) 150 n (zbo (bt 3 c))) 151 n (zbo ((bt 4 b) ∧ (bt 4 c)))) post := by
                    have C97 : ∀ (pst96 : Outcome × zS → Prop), (pst96 (.returned none, sI (sI (sI (sI (sI (sI (sI (sI (sI (sI S 145 n (q + 1)) 147 n (zbo ((bt 0 a) ∧ (bt 0 b) ∧ (bt 0 c)))) 148 n (zbo (((bt 0 a) ∧ (bt 1 b) ∧ (bt 1 c)) ∨ ((bt 1 a) ∧ (bt 0 b) ∧ (bt 0 c))))) 149 n 0) 150 n (zbo (bt 3 c))) 151 n (zbo ((bt 4 b) ∧ (bt 4 c)))) 152 n (zbo ((bt 5 c) ∧ ((bt 5 a) ∨ (bt 5 b))))) 153 n (zbo ((bt 6 c) ∧ ((bt 5 a) ∨ (bt 6 b))))) 154 n (zbo ((bt 7 c) ∧ ((bt 5 a) ∨ (bt 6 b))))) 155 n (zbo ((bt 8 a) ∧ (bt 8 b) ∧ (bt 8 c) ∧ (bt 7 a) ∧ ((bt 5 a) ∨ (bt 5 b) ∨ (bt 5 c)))))) → zCall (d - 1) 285 [.ref n, .int (zbo ((bt 5 c) ∧ ((bt 5 a) ∨ (bt 5 b)))), .int (zbo ((bt 6 c) ∧ ((bt 5 a) ∨ (bt 6 b)))), .int (zbo ((bt 7 c) ∧ ((bt 5 a) ∨ (bt 6 b)))), .int (zbo ((bt 8 a) ∧ (bt 8 b) ∧ (bt 8 c) ∧ (bt 7 a) ∧ ((bt 5 a) ∨ (bt 5 b) ∨ (bt 5 c))))] (sI (sI (sI (sI (sI (sI S 145 n (q + 1)) 147 n (zbo ((bt 0 a) ∧ (bt 0 b) ∧ (bt 0 c)))) 148 n (zbo (((bt 0 a) ∧ (bt 1 b) ∧ (bt 1 c)) ∨ ((bt 1 a) ∧ (bt 0 b) ∧ (bt 0 c))))) 149 n 0) 150 n (zbo (bt 3 c))) 151 n (zbo ((bt 4 b) ∧ (bt 4 c)))) pst96 := by
                      intro pst96 k99
                      have ht98 : ztab 285 = ztb285 := rfl
                      show zEv (d - 1) 285 0 [.ref n, .int (zbo ((bt 5 c) ∧ ((bt 5 a) ∨ (bt 5 b)))), .int (zbo ((bt 6 c) ∧ ((bt 5 a) ∨ (bt 6 b)))), .int (zbo ((bt 7 c) ∧ ((bt 5 a) ∨ (bt 6 b)))), .int (zbo ((bt 8 a) ∧ (bt 8 b) ∧ (bt 8 c) ∧ (bt 7 a) ∧ ((bt 5 a) ∨ (bt 5 b) ∨ (bt 5 c))))] [] (sI (sI (sI (sI (sI (sI S 145 n (q + 1)) 147 n (zbo ((bt 0 a) ∧ (bt 0 b) ∧ (bt 0 c)))) 148 n (zbo (((bt 0 a) ∧ (bt 1 b) ∧ (bt 1 c)) ∨ ((bt 1 a) ∧ (bt 0 b) ∧ (bt 0 c))))) 149 n 0) 150 n (zbo (bt 3 c))) 151 n (zbo ((bt 4 b) ∧ (bt 4 c)))) pst96
                      refine zv_c1 ht98 rfl rfl (zv_c1 ht98 rfl rfl ?_)
                      refine zv_ci (S' := sI (sI (sI (sI (sI (sI (sI S 145 n (q + 1)) 147 n (zbo ((bt 0 a) ∧ (bt 0 b) ∧ (bt 0 c)))) 148 n (zbo (((bt 0 a) ∧ (bt 1 b) ∧ (bt 1 c)) ∨ ((bt 1 a) ∧ (bt 0 b) ∧ (bt 0 c))))) 149 n 0) 150 n (zbo (bt 3 c))) 151 n (zbo ((bt 4 b) ∧ (bt 4 c)))) 152 n (zbo ((bt 5 c) ∧ ((bt 5 a) ∨ (bt 5 b))))) ht98 rfl rfl ⟨⟨(zhas_of (htn) rfl), (show n < gN S from by omega)⟩, zbo_rng⟩ ?_
                      refine zv_c1 ht98 rfl rfl (zv_c1 ht98 rfl rfl ?_)
                      refine zv_ci (S' := sI (sI (sI (sI (sI (sI (sI (sI S 145 n (q + 1)) 147 n (zbo ((bt 0 a) ∧ (bt 0 b) ∧ (bt 0 c)))) 148 n (zbo (((bt 0 a) ∧ (bt 1 b) ∧ (bt 1 c)) ∨ ((bt 1 a) ∧ (bt 0 b) ∧ (bt 0 c))))) 149 n 0) 150 n (zbo (bt 3 c))) 151 n (zbo ((bt 4 b) ∧ (bt 4 c)))) 152 n (zbo ((bt 5 c) ∧ ((bt 5 a) ∨ (bt 5 b))))) 153 n (zbo ((bt 6 c) ∧ ((bt 5 a) ∨ (bt 6 b))))) ht98 rfl rfl ⟨⟨(zhas_of (htn) rfl), (show n < gN S from by omega)⟩, zbo_rng⟩ ?_
                      refine zv_c1 ht98 rfl rfl (zv_c1 ht98 rfl rfl ?_)
                      refine zv_ci (S' := sI (sI (sI (sI (sI (sI (sI (sI (sI S 145 n (q + 1)) 147 n (zbo ((bt 0 a) ∧ (bt 0 b) ∧ (bt 0 c)))) 148 n (zbo (((bt 0 a) ∧ (bt 1 b) ∧ (bt 1 c)) ∨ ((bt 1 a) ∧ (bt 0 b) ∧ (bt 0 c))))) 149 n 0) 150 n (zbo (bt 3 c))) 151 n (zbo ((bt 4 b) ∧ (bt 4 c)))) 152 n (zbo ((bt 5 c) ∧ ((bt 5 a) ∨ (bt 5 b))))) 153 n (zbo ((bt 6 c) ∧ ((bt 5 a) ∨ (bt 6 b))))) 154 n (zbo ((bt 7 c) ∧ ((bt 5 a) ∨ (bt 6 b))))) ht98 rfl rfl ⟨⟨(zhas_of (htn) rfl), (show n < gN S from by omega)⟩, zbo_rng⟩ ?_
                      refine zv_c1 ht98 rfl rfl (zv_c1 ht98 rfl rfl ?_)
                      refine zv_ci (S' := sI (sI (sI (sI (sI (sI (sI (sI (sI (sI S 145 n (q + 1)) 147 n (zbo ((bt 0 a) ∧ (bt 0 b) ∧ (bt 0 c)))) 148 n (zbo (((bt 0 a) ∧ (bt 1 b) ∧ (bt 1 c)) ∨ ((bt 1 a) ∧ (bt 0 b) ∧ (bt 0 c))))) 149 n 0) 150 n (zbo (bt 3 c))) 151 n (zbo ((bt 4 b) ∧ (bt 4 c)))) 152 n (zbo ((bt 5 c) ∧ ((bt 5 a) ∨ (bt 5 b))))) 153 n (zbo ((bt 6 c) ∧ ((bt 5 a) ∨ (bt 6 b))))) 154 n (zbo ((bt 7 c) ∧ ((bt 5 a) ∨ (bt 6 b))))) 155 n (zbo ((bt 8 a) ∧ (bt 8 b) ∧ (bt 8 c) ∧ (bt 7 a) ∧ ((bt 5 a) ∨ (bt 5 b) ∨ (bt 5 c))))) ht98 rfl rfl ⟨⟨(zhas_of (htn) rfl), (show n < gN S from by omega)⟩, zbo_rng⟩ ?_
                      exact zv_rt ht98 rfl rfl rfl rfl k99
                    refine zv_cl ht rfl rfl rfl (zv_tgv (htn) rfl) (by omega) (Nat.le_of_ble_eq_true rfl) (C97 _ ?_)
                    show zEv d 360 371 [.ref n] [] (sI (sI (sI (sI (sI (sI (sI (sI (sI (sI S 145 n (q + 1)) 147 n (zbo ((bt 0 a) ∧ (bt 0 b) ∧ (bt 0 c)))) 148 n (zbo (((bt 0 a) ∧ (bt 1 b) ∧ (bt 1 c)) ∨ ((bt 1 a) ∧ (bt 0 b) ∧ (bt 0 c))))) 149 n 0) 150 n (zbo (bt 3 c))) 151 n (zbo ((bt 4 b) ∧ (bt 4 c)))) 152 n (zbo ((bt 5 c) ∧ ((bt 5 a) ∨ (bt 5 b))))) 153 n (zbo ((bt 6 c) ∧ ((bt 5 a) ∨ (bt 6 b))))) 154 n (zbo ((bt 7 c) ∧ ((bt 5 a) ∨ (bt 6 b))))) 155 n (zbo ((bt 8 a) ∧ (bt 8 b) ∧ (bt 8 c) ∧ (bt 7 a) ∧ ((bt 5 a) ∨ (bt 5 b) ∨ (bt 5 c))))) post
                    refine zv_c1 ht rfl rfl (zv_c1 ht rfl rfl ?_)
                    refine zv_g3 (q := x) ht rfl hF rfl rfl (zhas_of (htn) rfl) hpx ?_
                    refine zv_c1 ht rfl rfl ?_
                    have C101 : ∀ (pst100 : Outcome × zS → Prop), (pst100 (.returned none, sI (sI (sI (sI (sI (sI (sI (sI (sI (sI (sI (sI S 145 n (q + 1)) 147 n (zbo ((bt 0 a) ∧ (bt 0 b) ∧ (bt 0 c)))) 148 n (zbo (((bt 0 a) ∧ (bt 1 b) ∧ (bt 1 c)) ∨ ((bt 1 a) ∧ (bt 0 b) ∧ (bt 0 c))))) 149 n 0) 150 n (zbo (bt 3 c))) 151 n (zbo ((bt 4 b) ∧ (bt 4 c)))) 152 n (zbo ((bt 5 c) ∧ ((bt 5 a) ∨ (bt 5 b))))) 153 n (zbo ((bt 6 c) ∧ ((bt 5 a) ∨ (bt 6 b))))) 154 n (zbo ((bt 7 c) ∧ ((bt 5 a) ∨ (bt 6 b))))) 155 n (zbo ((bt 8 a) ∧ (bt 8 b) ∧ (bt 8 c) ∧ (bt 7 a) ∧ ((bt 5 a) ∨ (bt 5 b) ∨ (bt 5 c))))) 156 n (zbo (bt 9 a))) 146 n ((0 : Int32) ||| tx))) → zCall (d - 1) 286 [.ref n, .ref x, .int 0] (sI (sI (sI (sI (sI (sI (sI (sI (sI (sI S 145 n (q + 1)) 147 n (zbo ((bt 0 a) ∧ (bt 0 b) ∧ (bt 0 c)))) 148 n (zbo (((bt 0 a) ∧ (bt 1 b) ∧ (bt 1 c)) ∨ ((bt 1 a) ∧ (bt 0 b) ∧ (bt 0 c))))) 149 n 0) 150 n (zbo (bt 3 c))) 151 n (zbo ((bt 4 b) ∧ (bt 4 c)))) 152 n (zbo ((bt 5 c) ∧ ((bt 5 a) ∨ (bt 5 b))))) 153 n (zbo ((bt 6 c) ∧ ((bt 5 a) ∨ (bt 6 b))))) 154 n (zbo ((bt 7 c) ∧ ((bt 5 a) ∨ (bt 6 b))))) 155 n (zbo ((bt 8 a) ∧ (bt 8 b) ∧ (bt 8 c) ∧ (bt 7 a) ∧ ((bt 5 a) ∨ (bt 5 b) ∨ (bt 5 c))))) pst100 := by
                      intro pst100 k107
                      have ht102 : ztab 286 = ztb286 := rfl
                      show zEv (d - 1) 286 0 [.ref n, .ref x, .int 0] [] (sI (sI (sI (sI (sI (sI (sI (sI (sI (sI S 145 n (q + 1)) 147 n (zbo ((bt 0 a) ∧ (bt 0 b) ∧ (bt 0 c)))) 148 n (zbo (((bt 0 a) ∧ (bt 1 b) ∧ (bt 1 c)) ∨ ((bt 1 a) ∧ (bt 0 b) ∧ (bt 0 c))))) 149 n 0) 150 n (zbo (bt 3 c))) 151 n (zbo ((bt 4 b) ∧ (bt 4 c)))) 152 n (zbo ((bt 5 c) ∧ ((bt 5 a) ∨ (bt 5 b))))) 153 n (zbo ((bt 6 c) ∧ ((bt 5 a) ∨ (bt 6 b))))) 154 n (zbo ((bt 7 c) ∧ ((bt 5 a) ∨ (bt 6 b))))) 155 n (zbo ((bt 8 a) ∧ (bt 8 b) ∧ (bt 8 c) ∧ (bt 7 a) ∧ ((bt 5 a) ∨ (bt 5 b) ∨ (bt 5 c))))) pst100
                      refine zv_c1 ht102 rfl rfl ?_
                      refine zv_br ht102 rfl rfl rfl (fun _ => ?_) (fun h => absurd (by decide) h)
                      refine zv_c1 ht102 rfl rfl (zv_c1 ht102 rfl rfl ?_)
                      refine zv_ei (x := zbo False) ht102 rfl rfl (zhas_of (htn) rfl) hm0 ?_
                      refine zv_br ht102 rfl rfl rfl (fun b103 => (b103 ((zbo_eq0 : (zbo False) = 0 ↔ ¬ False).mpr trivial)).elim) (fun b103 => ?_)
                      refine zv_c1 ht102 rfl rfl ?_
                      refine zv_ei (x := zbo (bt 9 a)) ht102 rfl rfl (zhas_nc hcx (by decide)) hmixedx ?_
                      have J105 : zEv (d - 1) 286 73 [.ref n, .ref x, .retAddr 0] [.int (zbo (bt 9 a)), .ref n] (sI (sI (sI (sI (sI (sI (sI (sI (sI (sI S 145 n (q + 1)) 147 n (zbo ((bt 0 a) ∧ (bt 0 b) ∧ (bt 0 c)))) 148 n (zbo (((bt 0 a) ∧ (bt 1 b) ∧ (bt 1 c)) ∨ ((bt 1 a) ∧ (bt 0 b) ∧ (bt 0 c))))) 149 n 0) 150 n (zbo (bt 3 c))) 151 n (zbo ((bt 4 b) ∧ (bt 4 c)))) 152 n (zbo ((bt 5 c) ∧ ((bt 5 a) ∨ (bt 5 b))))) 153 n (zbo ((bt 6 c) ∧ ((bt 5 a) ∨ (bt 6 b))))) 154 n (zbo ((bt 7 c) ∧ ((bt 5 a) ∨ (bt 6 b))))) 155 n (zbo ((bt 8 a) ∧ (bt 8 b) ∧ (bt 8 c) ∧ (bt 7 a) ∧ ((bt 5 a) ∨ (bt 5 b) ∨ (bt 5 c))))) pst100 := by
                        refine zv_ci (S' := sI (sI (sI (sI (sI (sI (sI (sI (sI (sI (sI S 145 n (q + 1)) 147 n (zbo ((bt 0 a) ∧ (bt 0 b) ∧ (bt 0 c)))) 148 n (zbo (((bt 0 a) ∧ (bt 1 b) ∧ (bt 1 c)) ∨ ((bt 1 a) ∧ (bt 0 b) ∧ (bt 0 c))))) 149 n 0) 150 n (zbo (bt 3 c))) 151 n (zbo ((bt 4 b) ∧ (bt 4 c)))) 152 n (zbo ((bt 5 c) ∧ ((bt 5 a) ∨ (bt 5 b))))) 153 n (zbo ((bt 6 c) ∧ ((bt 5 a) ∨ (bt 6 b))))) 154 n (zbo ((bt 7 c) ∧ ((bt 5 a) ∨ (bt 6 b))))) 155 n (zbo ((bt 8 a) ∧ (bt 8 b) ∧ (bt 8 c) ∧ (bt 7 a) ∧ ((bt 5 a) ∨ (bt 5 b) ∨ (bt 5 c))))) 156 n (zbo (bt 9 a))) ht102 rfl rfl ⟨⟨(zhas_of (htn) rfl), (show n < gN S from by omega)⟩, zbo_rng⟩ ?_
                        refine zv_c1 ht102 rfl rfl (zv_c1 ht102 rfl rfl ?_)
                        refine zv_ei (x := 0) ht102 rfl rfl (zhas_of (htn) rfl) ht0 ?_
                        refine zv_c1 ht102 rfl rfl ?_
                        refine zv_ei (x := tx) ht102 rfl rfl (zhas_nc hcx (by decide)) htx ?_
                        refine zv_c1 (st' := [.int ((0 : Int32) ||| tx), .ref n]) (S' := sI (sI (sI (sI (sI (sI (sI (sI (sI (sI (sI S 145 n (q + 1)) 147 n (zbo ((bt 0 a) ∧ (bt 0 b) ∧ (bt 0 c)))) 148 n (zbo (((bt 0 a) ∧ (bt 1 b) ∧ (bt 1 c)) ∨ ((bt 1 a) ∧ (bt 0 b) ∧ (bt 0 c))))) 149 n 0) 150 n (zbo (bt 3 c))) 151 n (zbo ((bt 4 b) ∧ (bt 4 c)))) 152 n (zbo ((bt 5 c) ∧ ((bt 5 a) ∨ (bt 5 b))))) 153 n (zbo ((bt 6 c) ∧ ((bt 5 a) ∨ (bt 6 b))))) 154 n (zbo ((bt 7 c) ∧ ((bt 5 a) ∨ (bt 6 b))))) 155 n (zbo ((bt 8 a) ∧ (bt 8 b) ∧ (bt 8 c) ∧ (bt 7 a) ∧ ((bt 5 a) ∨ (bt 5 b) ∨ (bt 5 c))))) 156 n (zbo (bt 9 a))) ht102 rfl rfl ?_
                        refine zv_ci (S' := sI (sI (sI (sI (sI (sI (sI (sI (sI (sI (sI (sI S 145 n (q + 1)) 147 n (zbo ((bt 0 a) ∧ (bt 0 b) ∧ (bt 0 c)))) 148 n (zbo (((bt 0 a) ∧ (bt 1 b) ∧ (bt 1 c)) ∨ ((bt 1 a) ∧ (bt 0 b) ∧ (bt 0 c))))) 149 n 0) 150 n (zbo (bt 3 c))) 151 n (zbo ((bt 4 b) ∧ (bt 4 c)))) 152 n (zbo ((bt 5 c) ∧ ((bt 5 a) ∨ (bt 5 b))))) 153 n (zbo ((bt 6 c) ∧ ((bt 5 a) ∨ (bt 6 b))))) 154 n (zbo ((bt 7 c) ∧ ((bt 5 a) ∨ (bt 6 b))))) 155 n (zbo ((bt 8 a) ∧ (bt 8 b) ∧ (bt 8 c) ∧ (bt 7 a) ∧ ((bt 5 a) ∨ (bt 5 b) ∨ (bt 5 c))))) 156 n (zbo (bt 9 a))) 146 n ((0 : Int32) ||| tx)) ht102 rfl rfl ⟨(zhas_of (htn) rfl), (show n < gN S from by omega)⟩ ?_
                        exact zv_rt ht102 rfl rfl rfl rfl k107
                      refine zv_br ht102 rfl rfl rfl (fun b104 => ?_) (fun b104 => ?_)
                      · replace b104 : ¬ (bt 9 a) := (zbo_eq0 : (zbo (bt 9 a)) = 0 ↔ ¬ (bt 9 a)).mp b104
                        refine zv_c1 ht102 rfl rfl ?_
                        exact zEv.wk (L := [.ref n, .ref x, .retAddr 0]) (L' := [.ref n, .ref x, .int 0]) (And.intro (Or.inl rfl) (And.intro (Or.inl rfl) (And.intro (Or.inr rfl) trivial))) (zv_sub (zz := zbo (bt 9 a)) (zy := 0) (p := fun zz => zEv (d - 1) 286 73 [.ref n, .ref x, .retAddr 0] [.int zz, .ref n] (sI (sI (sI (sI (sI (sI (sI (sI (sI (sI S 145 n (q + 1)) 147 n (zbo ((bt 0 a) ∧ (bt 0 b) ∧ (bt 0 c)))) 148 n (zbo (((bt 0 a) ∧ (bt 1 b) ∧ (bt 1 c)) ∨ ((bt 1 a) ∧ (bt 0 b) ∧ (bt 0 c))))) 149 n 0) 150 n (zbo (bt 3 c))) 151 n (zbo ((bt 4 b) ∧ (bt 4 c)))) 152 n (zbo ((bt 5 c) ∧ ((bt 5 a) ∨ (bt 5 b))))) 153 n (zbo ((bt 6 c) ∧ ((bt 5 a) ∨ (bt 6 b))))) 154 n (zbo ((bt 7 c) ∧ ((bt 5 a) ∨ (bt 6 b))))) 155 n (zbo ((bt 8 a) ∧ (bt 8 b) ∧ (bt 8 c) ∧ (bt 7 a) ∧ ((bt 5 a) ∨ (bt 5 b) ∨ (bt 5 c))))) pst100) (zbo_neg b104) J105)
                      · replace b104 : bt 9 a := Classical.byContradiction (fun h => b104 ((zbo_eq0 : (zbo (bt 9 a)) = 0 ↔ ¬ (bt 9 a)).mpr h))
                        refine zv_c1 ht102 rfl rfl (zv_c1 ht102 rfl rfl ?_)
                        exact zEv.wk (L := [.ref n, .ref x, .retAddr 0]) (L' := [.ref n, .ref x, .int 0]) (And.intro (Or.inl rfl) (And.intro (Or.inl rfl) (And.intro (Or.inr rfl) trivial))) (zv_sub (zz := zbo (bt 9 a)) (zy := 1) (p := fun zz => zEv (d - 1) 286 73 [.ref n, .ref x, .retAddr 0] [.int zz, .ref n] (sI (sI (sI (sI (sI (sI (sI (sI (sI (sI S 145 n (q + 1)) 147 n (zbo ((bt 0 a) ∧ (bt 0 b) ∧ (bt 0 c)))) 148 n (zbo (((bt 0 a) ∧ (bt 1 b) ∧ (bt 1 c)) ∨ ((bt 1 a) ∧ (bt 0 b) ∧ (bt 0 c))))) 149 n 0) 150 n (zbo (bt 3 c))) 151 n (zbo ((bt 4 b) ∧ (bt 4 c)))) 152 n (zbo ((bt 5 c) ∧ ((bt 5 a) ∨ (bt 5 b))))) 153 n (zbo ((bt 6 c) ∧ ((bt 5 a) ∨ (bt 6 b))))) 154 n (zbo ((bt 7 c) ∧ ((bt 5 a) ∨ (bt 6 b))))) 155 n (zbo ((bt 8 a) ∧ (bt 8 b) ∧ (bt 8 c) ∧ (bt 7 a) ∧ ((bt 5 a) ∨ (bt 5 b) ∨ (bt 5 c))))) pst100) (zbo_pos b104) J105)
                    refine zv_cl ht rfl rfl rfl (zv_tgv (htn) rfl) (by omega) (Nat.le_of_ble_eq_true rfl) (C101 _ ?_)
                    show zEv d 360 380 [.ref n] [] (sI (sI (sI (sI (sI (sI (sI (sI (sI (sI (sI (sI S 145 n (q + 1)) 147 n (zbo ((bt 0 a) ∧ (bt 0 b) ∧ (bt 0 c)))) 148 n (zbo (((bt 0 a) ∧ (bt 1 b) ∧ (bt 1 c)) ∨ ((bt 1 a) ∧ (bt 0 b) ∧ (bt 0 c))))) 149 n 0) 150 n (zbo (bt 3 c))) 151 n (zbo ((bt 4 b) ∧ (bt 4 c)))) 152 n (zbo ((bt 5 c) ∧ ((bt 5 a) ∨ (bt 5 b))))) 153 n (zbo ((bt 6 c) ∧ ((bt 5 a) ∨ (bt 6 b))))) 154 n (zbo ((bt 7 c) ∧ ((bt 5 a) ∨ (bt 6 b))))) 155 n (zbo ((bt 8 a) ∧ (bt 8 b) ∧ (bt 8 c) ∧ (bt 7 a) ∧ ((bt 5 a) ∨ (bt 5 b) ∨ (bt 5 c))))) 156 n (zbo (bt 9 a))) 146 n ((0 : Int32) ||| tx)) post
                    refine zv_c1 ht rfl rfl (zv_c1 ht rfl rfl ?_)
                    refine zv_g3 (q := y) ht rfl hF rfl rfl (zhas_of (htn) rfl) hpy ?_
                    refine zv_c1 ht rfl rfl ?_
                    have C109 : ∀ (pst108 : Outcome × zS → Prop), (pst108 (.returned none, sI (sI (sI (sI (sI (sI (sI (sI (sI (sI (sI (sI (sI (sI (sI S 145 n (q + 1)) 147 n (zbo ((bt 0 a) ∧ (bt 0 b) ∧ (bt 0 c)))) 148 n (zbo (((bt 0 a) ∧ (bt 1 b) ∧ (bt 1 c)) ∨ ((bt 1 a) ∧ (bt 0 b) ∧ (bt 0 c))))) 149 n 0) 150 n (zbo (bt 3 c))) 151 n (zbo ((bt 4 b) ∧ (bt 4 c)))) 152 n (zbo ((bt 5 c) ∧ ((bt 5 a) ∨ (bt 5 b))))) 153 n (zbo ((bt 6 c) ∧ ((bt 5 a) ∨ (bt 6 b))))) 154 n (zbo ((bt 7 c) ∧ ((bt 5 a) ∨ (bt 6 b))))) 155 n (zbo ((bt 8 a) ∧ (bt 8 b) ∧ (bt 8 c) ∧ (bt 7 a) ∧ ((bt 5 a) ∨ (bt 5 b) ∨ (bt 5 c))))) 156 n (zbo (bt 9 a))) 146 n ((0 : Int32) ||| tx)) 156 n (zbo ((bt 9 a) ∨ (((¬ ((((0 : Int32) ||| tx) &&& (1 : Int32)) = 0)) ∧ (¬ ((ty &&& (2 : Int32)) = 0))) ∨ ((¬ ((((0 : Int32) ||| tx) &&& (2 : Int32)) = 0)) ∧ (¬ ((ty &&& (1 : Int32)) = 0)))) ∨ ((¬ ((((0 : Int32) ||| tx) &&& (4 : Int32)) = 0)) ∧ (¬ ((ty &&& (8 : Int32)) = 0))) ∨ ((¬ ((((0 : Int32) ||| tx) &&& (8 : Int32)) = 0)) ∧ (¬ ((ty &&& (4 : Int32)) = 0)))))) 156 n (zbo (((bt 9 a) ∨ (((¬ ((((0 : Int32) ||| tx) &&& (1 : Int32)) = 0)) ∧ (¬ ((ty &&& (2 : Int32)) = 0))) ∨ ((¬ ((((0 : Int32) ||| tx) &&& (2 : Int32)) = 0)) ∧ (¬ ((ty &&& (1 : Int32)) = 0)))) ∨ ((¬ ((((0 : Int32) ||| tx) &&& (4 : Int32)) = 0)) ∧ (¬ ((ty &&& (8 : Int32)) = 0))) ∨ ((¬ ((((0 : Int32) ||| tx) &&& (8 : Int32)) = 0)) ∧ (¬ ((ty &&& (4 : Int32)) = 0)))) ∨ (bt 9 b)))) 146 n (((0 : Int32) ||| tx) ||| ty))) → zCall (d - 1) 286 [.ref n, .ref y, .int 1] (sI (sI (sI (sI (sI (sI (sI (sI (sI (sI (sI (sI S 145 n (q + 1)) 147 n (zbo ((bt 0 a) ∧ (bt 0 b) ∧ (bt 0 c)))) 148 n (zbo (((bt 0 a) ∧ (bt 1 b) ∧ (bt 1 c)) ∨ ((bt 1 a) ∧ (bt 0 b) ∧ (bt 0 c))))) 149 n 0) 150 n (zbo (bt 3 c))) 151 n (zbo ((bt 4 b) ∧ (bt 4 c)))) 152 n (zbo ((bt 5 c) ∧ ((bt 5 a) ∨ (bt 5 b))))) 153 n (zbo ((bt 6 c) ∧ ((bt 5 a) ∨ (bt 6 b))))) 154 n (zbo ((bt 7 c) ∧ ((bt 5 a) ∨ (bt 6 b))))) 155 n (zbo ((bt 8 a) ∧ (bt 8 b) ∧ (bt 8 c) ∧ (bt 7 a) ∧ ((bt 5 a) ∨ (bt 5 b) ∨ (bt 5 c))))) 156 n (zbo (bt 9 a))) 146 n ((0 : Int32) ||| tx)) pst108 := by
                      intro pst108 k156
                      have ht110 : ztab 286 = ztb286 := rfl
                      show zEv (d - 1) 286 0 [.ref n, .ref y, .int 1] [] (sI (sI (sI (sI (sI (sI (sI (sI (sI (sI (sI (sI S 145 n (q + 1)) 147 n (zbo ((bt 0 a) ∧ (bt 0 b) ∧ (bt 0 c)))) 148 n (zbo (((bt 0 a) ∧ (bt 1 b) ∧ (bt 1 c)) ∨ ((bt 1 a) ∧ (bt 0 b) ∧ (bt 0 c))))) 149 n 0) 150 n (zbo (bt 3 c))) 151 n (zbo ((bt 4 b) ∧ (bt 4 c)))) 152 n (zbo ((bt 5 c) ∧ ((bt 5 a) ∨ (bt 5 b))))) 153 n (zbo ((bt 6 c) ∧ ((bt 5 a) ∨ (bt 6 b))))) 154 n (zbo ((bt 7 c) ∧ ((bt 5 a) ∨ (bt 6 b))))) 155 n (zbo ((bt 8 a) ∧ (bt 8 b) ∧ (bt 8 c) ∧ (bt 7 a) ∧ ((bt 5 a) ∨ (bt 5 b) ∨ (bt 5 c))))) 156 n (zbo (bt 9 a))) 146 n ((0 : Int32) ||| tx)) pst108
                      refine zv_c1 ht110 rfl rfl ?_
                      refine zv_br ht110 rfl rfl rfl (fun h => absurd h (by decide)) (fun _ => ?_)
                      refine zv_c1 ht110 rfl rfl (zv_c1 ht110 rfl rfl ?_)
                      refine zv_ei (x := zbo (bt 9 a)) ht110 rfl rfl (zhas_of (htn) rfl) gI_sI_at ?_
                      have J148 : zEv (d - 1) 286 50 [.ref n, .ref y, .retAddr 0] [.int (zbo ((bt 9 a) ∨ (((¬ ((((0 : Int32) ||| tx) &&& (1 : Int32)) = 0)) ∧ (¬ ((ty &&& (2 : Int32)) = 0))) ∨ ((¬ ((((0 : Int32) ||| tx) &&& (2 : Int32)) = 0)) ∧ (¬ ((ty &&& (1 : Int32)) = 0)))) ∨ ((¬ ((((0 : Int32) ||| tx) &&& (4 : Int32)) = 0)) ∧ (¬ ((ty &&& (8 : Int32)) = 0))) ∨ ((¬ ((((0 : Int32) ||| tx) &&& (8 : Int32)) = 0)) ∧ (¬ ((ty &&& (4 : Int32)) = 0))))), .ref n] (sI (sI (sI (sI (sI (sI (sI (sI (sI (sI (sI (sI S 145 n (q + 1)) 147 n (zbo ((bt 0 a) ∧ (bt 0 b) ∧ (bt 0 c)))) 148 n (zbo (((bt 0 a) ∧ (bt 1 b) ∧ (bt 1 c)) ∨ ((bt 1 a) ∧ (bt 0 b) ∧ (bt 0 c))))) 149 n 0) 150 n (zbo (bt 3 c))) 151 n (zbo ((bt 4 b) ∧ (bt 4 c)))) 152 n (zbo ((bt 5 c) ∧ ((bt 5 a) ∨ (bt 5 b))))) 153 n (zbo ((bt 6 c) ∧ ((bt 5 a) ∨ (bt 6 b))))) 154 n (zbo ((bt 7 c) ∧ ((bt 5 a) ∨ (bt 6 b))))) 155 n (zbo ((bt 8 a) ∧ (bt 8 b) ∧ (bt 8 c) ∧ (bt 7 a) ∧ ((bt 5 a) ∨ (bt 5 b) ∨ (bt 5 c))))) 156 n (zbo (bt 9 a))) 146 n ((0 : Int32) ||| tx)) pst108 := by
                        refine zv_ci (S' := sI (sI (sI (sI (sI (sI (sI (sI (sI (sI (sI (sI (sI S 145 n (q + 1)) 147 n (zbo ((bt 0 a) ∧ (bt 0 b) ∧ (bt 0 c)))) 148 n (zbo (((bt 0 a) ∧ (bt 1 b) ∧ (bt 1 c)) ∨ ((bt 1 a) ∧ (bt 0 b) ∧ (bt 0 c))))) 149 n 0) 150 n (zbo (bt 3 c))) 151 n (zbo ((bt 4 b) ∧ (bt 4 c)))) 152 n (zbo ((bt 5 c) ∧ ((bt 5 a) ∨ (bt 5 b))))) 153 n (zbo ((bt 6 c) ∧ ((bt 5 a) ∨ (bt 6 b))))) 154 n (zbo ((bt 7 c) ∧ ((bt 5 a) ∨ (bt 6 b))))) 155 n (zbo ((bt 8 a) ∧ (bt 8 b) ∧ (bt 8 c) ∧ (bt 7 a) ∧ ((bt 5 a) ∨ (bt 5 b) ∨ (bt 5 c))))) 156 n (zbo (bt 9 a))) 146 n ((0 : Int32) ||| tx)) 156 n (zbo ((bt 9 a) ∨ (((¬ ((((0 : Int32) ||| tx) &&& (1 : Int32)) = 0)) ∧ (¬ ((ty &&& (2 : Int32)) = 0))) ∨ ((¬ ((((0 : Int32) ||| tx) &&& (2 : Int32)) = 0)) ∧ (¬ ((ty &&& (1 : Int32)) = 0)))) ∨ ((¬ ((((0 : Int32) ||| tx) &&& (4 : Int32)) = 0)) ∧ (¬ ((ty &&& (8 : Int32)) = 0))) ∨ ((¬ ((((0 : Int32) ||| tx) &&& (8 : Int32)) = 0)) ∧ (¬ ((ty &&& (4 : Int32)) = 0)))))) ht110 rfl rfl ⟨⟨(zhas_of (htn) rfl), (show n < gN S from by omega)⟩, zbo_rng⟩ ?_
                        refine zv_c1 ht110 rfl rfl (zv_c1 ht110 rfl rfl ?_)
                        refine zv_ei (x := zbo ((bt 9 a) ∨ (((¬ ((((0 : Int32) ||| tx) &&& (1 : Int32)) = 0)) ∧ (¬ ((ty &&& (2 : Int32)) = 0))) ∨ ((¬ ((((0 : Int32) ||| tx) &&& (2 : Int32)) = 0)) ∧ (¬ ((ty &&& (1 : Int32)) = 0)))) ∨ ((¬ ((((0 : Int32) ||| tx) &&& (4 : Int32)) = 0)) ∧ (¬ ((ty &&& (8 : Int32)) = 0))) ∨ ((¬ ((((0 : Int32) ||| tx) &&& (8 : Int32)) = 0)) ∧ (¬ ((ty &&& (4 : Int32)) = 0))))) ht110 rfl rfl (zhas_of (htn) rfl) gI_sI_at ?_
                        have J154 : zEv (d - 1) 286 73 [.ref n, .ref y, .retAddr 0] [.int (zbo (((bt 9 a) ∨ (((¬ ((((0 : Int32) ||| tx) &&& (1 : Int32)) = 0)) ∧ (¬ ((ty &&& (2 : Int32)) = 0))) ∨ ((¬ ((((0 : Int32) ||| tx) &&& (2 : Int32)) = 0)) ∧ (¬ ((ty &&& (1 : Int32)) = 0)))) ∨ ((¬ ((((0 : Int32) ||| tx) &&& (4 : Int32)) = 0)) ∧ (¬ ((ty &&& (8 : Int32)) = 0))) ∨ ((¬ ((((0 : Int32) ||| tx) &&& (8 : Int32)) = 0)) ∧ (¬ ((ty &&& (4 : Int32)) = 0)))) ∨ (bt 9 b))), .ref n] (sI (sI (sI (sI (sI (sI (sI (sI (sI (sI (sI (sI (sI S 145 n (q + 1)) 147 n (zbo ((bt 0 a) ∧ (bt 0 b) ∧ (bt 0 c)))) 148 n (zbo (((bt 0 a) ∧ (bt 1 b) ∧ (bt 1 c)) ∨ ((bt 1 a) ∧ (bt 0 b) ∧ (bt 0 c))))) 149 n 0) 150 n (zbo (bt 3 c))) 151 n (zbo ((bt 4 b) ∧ (bt 4 c)))) 152 n (zbo ((bt 5 c) ∧ ((bt 5 a) ∨ (bt 5 b))))) 153 n (zbo ((bt 6 c) ∧ ((bt 5 a) ∨ (bt 6 b))))) 154 n (zbo ((bt 7 c) ∧ ((bt 5 a) ∨ (bt 6 b))))) 155 n (zbo ((bt 8 a) ∧ (bt 8 b) ∧ (bt 8 c) ∧ (bt 7 a) ∧ ((bt 5 a) ∨ (bt 5 b) ∨ (bt 5 c))))) 156 n (zbo (bt 9 a))) 146 n ((0 : Int32) ||| tx)) 156 n (zbo ((bt 9 a) ∨ (((¬ ((((0 : Int32) ||| tx) &&& (1 : Int32)) = 0)) ∧ (¬ ((ty &&& (2 : Int32)) = 0))) ∨ ((¬ ((((0 : Int32) ||| tx) &&& (2 : Int32)) = 0)) ∧ (¬ ((ty &&& (1 : Int32)) = 0)))) ∨ ((¬ ((((0 : Int32) ||| tx) &&& (4 : Int32)) = 0)) ∧ (¬ ((ty &&& (8 : Int32)) = 0))) ∨ ((¬ ((((0 : Int32) ||| tx) &&& (8 : Int32)) = 0)) ∧ (¬ ((ty &&& (4 : Int32)) = 0)))))) pst108 := by
                          refine zv_ci (S' := sI (sI (sI (sI (sI (sI (sI (sI (sI (sI (sI (sI (sI (sI S 145 n (q + 1)) 147 n (zbo ((bt 0 a) ∧ (bt 0 b) ∧ (bt 0 c)))) 148 n (zbo (((bt 0 a) ∧ (bt 1 b) ∧ (bt 1 c)) ∨ ((bt 1 a) ∧ (bt 0 b) ∧ (bt 0 c))))) 149 n 0) 150 n (zbo (bt 3 c))) 151 n (zbo ((bt 4 b) ∧ (bt 4 c)))) 152 n (zbo ((bt 5 c) ∧ ((bt 5 a) ∨ (bt 5 b))))) 153 n (zbo ((bt 6 c) ∧ ((bt 5 a) ∨ (bt 6 b))))) 154 n (zbo ((bt 7 c) ∧ ((bt 5 a) ∨ (bt 6 b))))) 155 n (zbo ((bt 8 a) ∧ (bt 8 b) ∧ (bt 8 c) ∧ (bt 7 a) ∧ ((bt 5 a) ∨ (bt 5 b) ∨ (bt 5 c))))) 156 n (zbo (bt 9 a))) 146 n ((0 : Int32) ||| tx)) 156 n (zbo ((bt 9 a) ∨ (((¬ ((((0 : Int32) ||| tx) &&& (1 : Int32)) = 0)) ∧ (¬ ((ty &&& (2 : Int32)) = 0))) ∨ ((¬ ((((0 : Int32) ||| tx) &&& (2 : Int32)) = 0)) ∧ (¬ ((ty &&& (1 : Int32)) = 0)))) ∨ ((¬ ((((0 : Int32) ||| tx) &&& (4 : Int32)) = 0)) ∧ (¬ ((ty &&& (8 : Int32)) = 0))) ∨ ((¬ ((((0 : Int32) ||| tx) &&& (8 : Int32)) = 0)) ∧ (¬ ((ty &&& (4 : Int32)) = 0)))))) 156 n (zbo (((bt 9 a) ∨ (((¬ ((((0 : Int32) ||| tx) &&& (1 : Int32)) = 0)) ∧ (¬ ((ty &&& (2 : Int32)) = 0))) ∨ ((¬ ((((0 : Int32) ||| tx) &&& (2 : Int32)) = 0)) ∧ (¬ ((ty &&& (1 : Int32)) = 0)))) ∨ ((¬ ((((0 : Int32) ||| tx) &&& (4 : Int32)) = 0)) ∧ (¬ ((ty &&& (8 : Int32)) = 0))) ∨ ((¬ ((((0 : Int32) ||| tx) &&& (8 : Int32)) = 0)) ∧ (¬ ((ty &&& (4 : Int32)) = 0)))) ∨ (bt 9 b)))) ht110 rfl rfl ⟨⟨(zhas_of (htn) rfl), (show n < gN S from by omega)⟩, zbo_rng⟩ ?_
                          refine zv_c1 ht110 rfl rfl (zv_c1 ht110 rfl rfl ?_)
                          refine zv_ei (x := (0 : Int32) ||| tx) ht110 rfl rfl (zhas_of (htn) rfl) gI_sI_at ?_
                          refine zv_c1 ht110 rfl rfl ?_
                          refine zv_ei (x := ty) ht110 rfl rfl (zhas_nc hcy (by decide)) (Eq.trans (gI_sI_ne (by omega)) hty) ?_
                          refine zv_c1 (st' := [.int (((0 : Int32) ||| tx) ||| ty), .ref n]) (S' := sI (sI (sI (sI (sI (sI (sI (sI (sI (sI (sI (sI (sI (sI S 145 n (q + 1)) 147 n (zbo ((bt 0 a) ∧ (bt 0 b) ∧ (bt 0 c)))) 148 n (zbo (((bt 0 a) ∧ (bt 1 b) ∧ (bt 1 c)) ∨ ((bt 1 a) ∧ (bt 0 b) ∧ (bt 0 c))))) 149 n 0) 150 n (zbo (bt 3 c))) 151 n (zbo ((bt 4 b) ∧ (bt 4 c)))) 152 n (zbo ((bt 5 c) ∧ ((bt 5 a) ∨ (bt 5 b))))) 153 n (zbo ((bt 6 c) ∧ ((bt 5 a) ∨ (bt 6 b))))) 154 n (zbo ((bt 7 c) ∧ ((bt 5 a) ∨ (bt 6 b))))) 155 n (zbo ((bt 8 a) ∧ (bt 8 b) ∧ (bt 8 c) ∧ (bt 7 a) ∧ ((bt 5 a) ∨ (bt 5 b) ∨ (bt 5 c))))) 156 n (zbo (bt 9 a))) 146 n ((0 : Int32) ||| tx)) 156 n (zbo ((bt 9 a) ∨ (((¬ ((((0 : Int32) ||| tx) &&& (1 : Int32)) = 0)) ∧ (¬ ((ty &&& (2 : Int32)) = 0))) ∨ ((¬ ((((0 : Int32) ||| tx) &&& (2 : Int32)) = 0)) ∧ (¬ ((ty &&& (1 : Int32)) = 0)))) ∨ ((¬ ((((0 : Int32) ||| tx) &&& (4 : Int32)) = 0)) ∧ (¬ ((ty &&& (8 : Int32)) = 0))) ∨ ((¬ ((((0 : Int32) ||| tx) &&& (8 : Int32)) = 0)) ∧ (¬ ((ty &&& (4 : Int32)) = 0)))))) 156 n (zbo (((bt 9 a) ∨ (((¬ ((((0 : Int32) ||| tx) &&& (1 : Int32)) = 0)) ∧ (¬ ((ty &&& (2 : Int32)) = 0))) ∨ ((¬ ((((0 : Int32) ||| tx) &&& (2 : Int32)) = 0)) ∧ (¬ ((ty &&& (1 : Int32)) = 0)))) ∨ ((¬ ((((0 : Int32) ||| tx) &&& (4 : Int32)) = 0)) ∧ (¬ ((ty &&& (8 : Int32)) = 0))) ∨ ((¬ ((((0 : Int32) ||| tx) &&& (8 : Int32)) = 0)) ∧ (¬ ((ty &&& (4 : Int32)) = 0)))) ∨ (bt 9 b)))) ht110 rfl rfl ?_
                          refine zv_ci (S' := sI (sI (sI (sI (sI (sI (sI (sI (sI (sI (sI (sI (sI (sI (sI S 145 n (q + 1)) 147 n (zbo ((bt 0 a) ∧ (bt 0 b) ∧ (bt 0 c)))) 148 n (zbo (((bt 0 a) ∧ (bt 1 b) ∧ (bt 1 c)) ∨ ((bt 1 a) ∧ (bt 0 b) ∧ (bt 0 c))))) 149 n 0) 150 n (zbo (bt 3 c))) 151 n (zbo ((bt 4 b) ∧ (bt 4 c)))) 152 n (zbo ((bt 5 c) ∧ ((bt 5 a) ∨ (bt 5 b))))) 153 n (zbo ((bt 6 c) ∧ ((bt 5 a) ∨ (bt 6 b))))) 154 n (zbo ((bt 7 c) ∧ ((bt 5 a) ∨ (bt 6 b))))) 155 n (zbo ((bt 8 a) ∧ (bt 8 b) ∧ (bt 8 c) ∧ (bt 7 a) ∧ ((bt 5 a) ∨ (bt 5 b) ∨ (bt 5 c))))) 156 n (zbo (bt 9 a))) 146 n ((0 : Int32) ||| tx)) 156 n (zbo ((bt 9 a) ∨ (((¬ ((((0 : Int32) ||| tx) &&& (1 : Int32)) = 0)) ∧ (¬ ((ty &&& (2 : Int32)) = 0))) ∨ ((¬ ((((0 : Int32) ||| tx) &&& (2 : Int32)) = 0)) ∧ (¬ ((ty &&& (1 : Int32)) = 0)))) ∨ ((¬ ((((0 : Int32) ||| tx) &&& (4 : Int32)) = 0)) ∧ (¬ ((ty &&& (8 : Int32)) = 0))) ∨ ((¬ ((((0 : Int32) ||| tx) &&& (8 : Int32)) = 0)) ∧ (¬ ((ty &&& (4 : Int32)) = 0)))))) 156 n (zbo (((bt 9 a) ∨ (((¬ ((((0 : Int32) ||| tx) &&& (1 : Int32)) = 0)) ∧ (¬ ((ty &&& (2 : Int32)) = 0))) ∨ ((¬ ((((0 : Int32) ||| tx) &&& (2 : Int32)) = 0)) ∧ (¬ ((ty &&& (1 : Int32)) = 0)))) ∨ ((¬ ((((0 : Int32) ||| tx) &&& (4 : Int32)) = 0)) ∧ (¬ ((ty &&& (8 : Int32)) = 0))) ∨ ((¬ ((((0 : Int32) ||| tx) &&& (8 : Int32)) = 0)) ∧ (¬ ((ty &&& (4 : Int32)) = 0)))) ∨ (bt 9 b)))) 146 n (((0 : Int32) ||| tx) ||| ty)) ht110 rfl rfl ⟨(zhas_of (htn) rfl), (show n < gN S from by omega)⟩ ?_
                          exact zv_rt ht110 rfl rfl rfl rfl k156
                        have J152 : (((bt 9 a) ∨ (((¬ ((((0 : Int32) ||| tx) &&& (1 : Int32)) = 0)) ∧ (¬ ((ty &&& (2 : Int32)) = 0))) ∨ ((¬ ((((0 : Int32) ||| tx) &&& (2 : Int32)) = 0)) ∧ (¬ ((ty &&& (1 : Int32)) = 0)))) ∨ ((¬ ((((0 : Int32) ||| tx) &&& (4 : Int32)) = 0)) ∧ (¬ ((ty &&& (8 : Int32)) = 0))) ∨ ((¬ ((((0 : Int32) ||| tx) &&& (8 : Int32)) = 0)) ∧ (¬ ((ty &&& (4 : Int32)) = 0)))) ∨ (bt 9 b)) → zEv (d - 1) 286 68 [.ref n, .ref y, .retAddr 0] [.ref n] (sI (sI (sI (sI (sI (sI (sI (sI (sI (sI (sI (sI (sI S 145 n (q + 1)) 147 n (zbo ((bt 0 a) ∧ (bt 0 b) ∧ (bt 0 c)))) 148 n (zbo (((bt 0 a) ∧ (bt 1 b) ∧ (bt 1 c)) ∨ ((bt 1 a) ∧ (bt 0 b) ∧ (bt 0 c))))) 149 n 0) 150 n (zbo (bt 3 c))) 151 n (zbo ((bt 4 b) ∧ (bt 4 c)))) 152 n (zbo ((bt 5 c) ∧ ((bt 5 a) ∨ (bt 5 b))))) 153 n (zbo ((bt 6 c) ∧ ((bt 5 a) ∨ (bt 6 b))))) 154 n (zbo ((bt 7 c) ∧ ((bt 5 a) ∨ (bt 6 b))))) 155 n (zbo ((bt 8 a) ∧ (bt 8 b) ∧ (bt 8 c) ∧ (bt 7 a) ∧ ((bt 5 a) ∨ (bt 5 b) ∨ (bt 5 c))))) 156 n (zbo (bt 9 a))) 146 n ((0 : Int32) ||| tx)) 156 n (zbo ((bt 9 a) ∨ (((¬ ((((0 : Int32) ||| tx) &&& (1 : Int32)) = 0)) ∧ (¬ ((ty &&& (2 : Int32)) = 0))) ∨ ((¬ ((((0 : Int32) ||| tx) &&& (2 : Int32)) = 0)) ∧ (¬ ((ty &&& (1 : Int32)) = 0)))) ∨ ((¬ ((((0 : Int32) ||| tx) &&& (4 : Int32)) = 0)) ∧ (¬ ((ty &&& (8 : Int32)) = 0))) ∨ ((¬ ((((0 : Int32) ||| tx) &&& (8 : Int32)) = 0)) ∧ (¬ ((ty &&& (4 : Int32)) = 0)))))) pst108 := by
                          intro b153
                          refine zv_c1 ht110 rfl rfl (zv_c1 ht110 rfl rfl ?_)
                          exact (zv_sub (zz := zbo (((bt 9 a) ∨ (((¬ ((((0 : Int32) ||| tx) &&& (1 : Int32)) = 0)) ∧ (¬ ((ty &&& (2 : Int32)) = 0))) ∨ ((¬ ((((0 : Int32) ||| tx) &&& (2 : Int32)) = 0)) ∧ (¬ ((ty &&& (1 : Int32)) = 0)))) ∨ ((¬ ((((0 : Int32) ||| tx) &&& (4 : Int32)) = 0)) ∧ (¬ ((ty &&& (8 : Int32)) = 0))) ∨ ((¬ ((((0 : Int32) ||| tx) &&& (8 : Int32)) = 0)) ∧ (¬ ((ty &&& (4 : Int32)) = 0)))) ∨ (bt 9 b))) (zy := 1) (p := fun zz => zEv (d - 1) 286 73 [.ref n, .ref y, .retAddr 0] [.int zz, .ref n] (sI (sI (sI (sI (sI (sI (sI (sI (sI (sI (sI (sI (sI S 145 n (q + 1)) 147 n (zbo ((bt 0 a) ∧ (bt 0 b) ∧ (bt 0 c)))) 148 n (zbo (((bt 0 a) ∧ (bt 1 b) ∧ (bt 1 c)) ∨ ((bt 1 a) ∧ (bt 0 b) ∧ (bt 0 c))))) 149 n 0) 150 n (zbo (bt 3 c))) 151 n (zbo ((bt 4 b) ∧ (bt 4 c)))) 152 n (zbo ((bt 5 c) ∧ ((bt 5 a) ∨ (bt 5 b))))) 153 n (zbo ((bt 6 c) ∧ ((bt 5 a) ∨ (bt 6 b))))) 154 n (zbo ((bt 7 c) ∧ ((bt 5 a) ∨ (bt 6 b))))) 155 n (zbo ((bt 8 a) ∧ (bt 8 b) ∧ (bt 8 c) ∧ (bt 7 a) ∧ ((bt 5 a) ∨ (bt 5 b) ∨ (bt 5 c))))) 156 n (zbo (bt 9 a))) 146 n ((0 : Int32) ||| tx)) 156 n (zbo ((bt 9 a) ∨ (((¬ ((((0 : Int32) ||| tx) &&& (1 : Int32)) = 0)) ∧ (¬ ((ty &&& (2 : Int32)) = 0))) ∨ ((¬ ((((0 : Int32) ||| tx) &&& (2 : Int32)) = 0)) ∧ (¬ ((ty &&& (1 : Int32)) = 0)))) ∨ ((¬ ((((0 : Int32) ||| tx) &&& (4 : Int32)) = 0)) ∧ (¬ ((ty &&& (8 : Int32)) = 0))) ∨ ((¬ ((((0 : Int32) ||| tx) &&& (8 : Int32)) = 0)) ∧ (¬ ((ty &&& (4 : Int32)) = 0)))))) pst108) (zbo_pos b153) J154)
                        refine zv_br ht110 rfl rfl rfl (fun b150 => ?_) (fun b150 => ?_)
                        · replace b150 : (bt 9 a) ∨ (((¬ ((((0 : Int32) ||| tx) &&& (1 : Int32)) = 0)) ∧ (¬ ((ty &&& (2 : Int32)) = 0))) ∨ ((¬ ((((0 : Int32) ||| tx) &&& (2 : Int32)) = 0)) ∧ (¬ ((ty &&& (1 : Int32)) = 0)))) ∨ ((¬ ((((0 : Int32) ||| tx) &&& (4 : Int32)) = 0)) ∧ (¬ ((ty &&& (8 : Int32)) = 0))) ∨ ((¬ ((((0 : Int32) ||| tx) &&& (8 : Int32)) = 0)) ∧ (¬ ((ty &&& (4 : Int32)) = 0))) := Classical.byContradiction (fun h => b150 ((zbo_eq0 : (zbo ((bt 9 a) ∨ (((¬ ((((0 : Int32) ||| tx) &&& (1 : Int32)) = 0)) ∧ (¬ ((ty &&& (2 : Int32)) = 0))) ∨ ((¬ ((((0 : Int32) ||| tx) &&& (2 : Int32)) = 0)) ∧ (¬ ((ty &&& (1 : Int32)) = 0)))) ∨ ((¬ ((((0 : Int32) ||| tx) &&& (4 : Int32)) = 0)) ∧ (¬ ((ty &&& (8 : Int32)) = 0))) ∨ ((¬ ((((0 : Int32) ||| tx) &&& (8 : Int32)) = 0)) ∧ (¬ ((ty &&& (4 : Int32)) = 0))))) = 0 ↔ ¬ ((bt 9 a) ∨ (((¬ ((((0 : Int32) ||| tx) &&& (1 : Int32)) = 0)) ∧ (¬ ((ty &&& (2 : Int32)) = 0))) ∨ ((¬ ((((0 : Int32) ||| tx) &&& (2 : Int32)) = 0)) ∧ (¬ ((ty &&& (1 : Int32)) = 0)))) ∨ ((¬ ((((0 : Int32) ||| tx) &&& (4 : Int32)) = 0)) ∧ (¬ ((ty &&& (8 : Int32)) = 0))) ∨ ((¬ ((((0 : Int32) ||| tx) &&& (8 : Int32)) = 0)) ∧ (¬ ((ty &&& (4 : Int32)) = 0))))).mpr h))
                          exact (J152 (Or.inl b150))
                        · replace b150 : ¬ ((bt 9 a) ∨ (((¬ ((((0 : Int32) ||| tx) &&& (1 : Int32)) = 0)) ∧ (¬ ((ty &&& (2 : Int32)) = 0))) ∨ ((¬ ((((0 : Int32) ||| tx) &&& (2 : Int32)) = 0)) ∧ (¬ ((ty &&& (1 : Int32)) = 0)))) ∨ ((¬ ((((0 : Int32) ||| tx) &&& (4 : Int32)) = 0)) ∧ (¬ ((ty &&& (8 : Int32)) = 0))) ∨ ((¬ ((((0 : Int32) ||| tx) &&& (8 : Int32)) = 0)) ∧ (¬ ((ty &&& (4 : Int32)) = 0)))) := (zbo_eq0 : (zbo ((bt 9 a) ∨ (((¬ ((((0 : Int32) ||| tx) &&& (1 : Int32)) = 0)) ∧ (¬ ((ty &&& (2 : Int32)) = 0))) ∨ ((¬ ((((0 : Int32) ||| tx) &&& (2 : Int32)) = 0)) ∧ (¬ ((ty &&& (1 : Int32)) = 0)))) ∨ ((¬ ((((0 : Int32) ||| tx) &&& (4 : Int32)) = 0)) ∧ (¬ ((ty &&& (8 : Int32)) = 0))) ∨ ((¬ ((((0 : Int32) ||| tx) &&& (8 : Int32)) = 0)) ∧ (¬ ((ty &&& (4 : Int32)) = 0))))) = 0 ↔ ¬ ((bt 9 a) ∨ (((¬ ((((0 : Int32) ||| tx) &&& (1 : Int32)) = 0)) ∧ (¬ ((ty &&& (2 : Int32)) = 0))) ∨ ((¬ ((((0 : Int32) ||| tx) &&& (2 : Int32)) = 0)) ∧ (¬ ((ty &&& (1 : Int32)) = 0)))) ∨ ((¬ ((((0 : Int32) ||| tx) &&& (4 : Int32)) = 0)) ∧ (¬ ((ty &&& (8 : Int32)) = 0))) ∨ ((¬ ((((0 : Int32) ||| tx) &&& (8 : Int32)) = 0)) ∧ (¬ ((ty &&& (4 : Int32)) = 0))))).mp (Classical.not_not.mp b150)
                          refine zv_c1 ht110 rfl rfl ?_
                          refine zv_ei (x := zbo (bt 9 b)) ht110 rfl rfl (zhas_nc hcy (by decide)) (Eq.trans (gI_sI_ne (by omega)) (Eq.trans (gI_sI_ne (by omega)) hmixedy)) ?_
                          refine zv_br ht110 rfl rfl rfl (fun b151 => ?_) (fun b151 => ?_)
                          · replace b151 : ¬ (bt 9 b) := (zbo_eq0 : (zbo (bt 9 b)) = 0 ↔ ¬ (bt 9 b)).mp b151
                            refine zv_c1 ht110 rfl rfl ?_
                            exact (zv_sub (zz := zbo (((bt 9 a) ∨ (((¬ ((((0 : Int32) ||| tx) &&& (1 : Int32)) = 0)) ∧ (¬ ((ty &&& (2 : Int32)) = 0))) ∨ ((¬ ((((0 : Int32) ||| tx) &&& (2 : Int32)) = 0)) ∧ (¬ ((ty &&& (1 : Int32)) = 0)))) ∨ ((¬ ((((0 : Int32) ||| tx) &&& (4 : Int32)) = 0)) ∧ (¬ ((ty &&& (8 : Int32)) = 0))) ∨ ((¬ ((((0 : Int32) ||| tx) &&& (8 : Int32)) = 0)) ∧ (¬ ((ty &&& (4 : Int32)) = 0)))) ∨ (bt 9 b))) (zy := 0) (p := fun zz => zEv (d - 1) 286 73 [.ref n, .ref y, .retAddr 0] [.int zz, .ref n] (sI (sI (sI (sI (sI (sI (sI (sI (sI (sI (sI (sI (sI S 145 n (q + 1)) 147 n (zbo ((bt 0 a) ∧ (bt 0 b) ∧ (bt 0 c)))) 148 n (zbo (((bt 0 a) ∧ (bt 1 b) ∧ (bt 1 c)) ∨ ((bt 1 a) ∧ (bt 0 b) ∧ (bt 0 c))))) 149 n 0) 150 n (zbo (bt 3 c))) 151 n (zbo ((bt 4 b) ∧ (bt 4 c)))) 152 n (zbo ((bt 5 c) ∧ ((bt 5 a) ∨ (bt 5 b))))) 153 n (zbo ((bt 6 c) ∧ ((bt 5 a) ∨ (bt 6 b))))) 154 n (zbo ((bt 7 c) ∧ ((bt 5 a) ∨ (bt 6 b))))) 155 n (zbo ((bt 8 a) ∧ (bt 8 b) ∧ (bt 8 c) ∧ (bt 7 a) ∧ ((bt 5 a) ∨ (bt 5 b) ∨ (bt 5 c))))) 156 n (zbo (bt 9 a))) 146 n ((0 : Int32) ||| tx)) 156 n (zbo ((bt 9 a) ∨ (((¬ ((((0 : Int32) ||| tx) &&& (1 : Int32)) = 0)) ∧ (¬ ((ty &&& (2 : Int32)) = 0))) ∨ ((¬ ((((0 : Int32) ||| tx) &&& (2 : Int32)) = 0)) ∧ (¬ ((ty &&& (1 : Int32)) = 0)))) ∨ ((¬ ((((0 : Int32) ||| tx) &&& (4 : Int32)) = 0)) ∧ (¬ ((ty &&& (8 : Int32)) = 0))) ∨ ((¬ ((((0 : Int32) ||| tx) &&& (8 : Int32)) = 0)) ∧ (¬ ((ty &&& (4 : Int32)) = 0)))))) pst108) (zbo_neg (fun h => h.elim b150 b151)) J154)
                          · replace b151 : bt 9 b := Classical.byContradiction (fun h => b151 ((zbo_eq0 : (zbo (bt 9 b)) = 0 ↔ ¬ (bt 9 b)).mpr h))
                            exact (J152 (Or.inr b151))
                      have J146 : ((bt 9 a) ∨ (((¬ ((((0 : Int32) ||| tx) &&& (1 : Int32)) = 0)) ∧ (¬ ((ty &&& (2 : Int32)) = 0))) ∨ ((¬ ((((0 : Int32) ||| tx) &&& (2 : Int32)) = 0)) ∧ (¬ ((ty &&& (1 : Int32)) = 0)))) ∨ ((¬ ((((0 : Int32) ||| tx) &&& (4 : Int32)) = 0)) ∧ (¬ ((ty &&& (8 : Int32)) = 0))) ∨ ((¬ ((((0 : Int32) ||| tx) &&& (8 : Int32)) = 0)) ∧ (¬ ((ty &&& (4 : Int32)) = 0)))) → zEv (d - 1) 286 45 [.ref n, .ref y, .retAddr 0] [.ref n] (sI (sI (sI (sI (sI (sI (sI (sI (sI (sI (sI (sI S 145 n (q + 1)) 147 n (zbo ((bt 0 a) ∧ (bt 0 b) ∧ (bt 0 c)))) 148 n (zbo (((bt 0 a) ∧ (bt 1 b) ∧ (bt 1 c)) ∨ ((bt 1 a) ∧ (bt 0 b) ∧ (bt 0 c))))) 149 n 0) 150 n (zbo (bt 3 c))) 151 n (zbo ((bt 4 b) ∧ (bt 4 c)))) 152 n (zbo ((bt 5 c) ∧ ((bt 5 a) ∨ (bt 5 b))))) 153 n (zbo ((bt 6 c) ∧ ((bt 5 a) ∨ (bt 6 b))))) 154 n (zbo ((bt 7 c) ∧ ((bt 5 a) ∨ (bt 6 b))))) 155 n (zbo ((bt 8 a) ∧ (bt 8 b) ∧ (bt 8 c) ∧ (bt 7 a) ∧ ((bt 5 a) ∨ (bt 5 b) ∨ (bt 5 c))))) 156 n (zbo (bt 9 a))) 146 n ((0 : Int32) ||| tx)) pst108 := by
                        intro b147
                        refine zv_c1 ht110 rfl rfl (zv_c1 ht110 rfl rfl ?_)
                        exact (zv_sub (zz := zbo ((bt 9 a) ∨ (((¬ ((((0 : Int32) ||| tx) &&& (1 : Int32)) = 0)) ∧ (¬ ((ty &&& (2 : Int32)) = 0))) ∨ ((¬ ((((0 : Int32) ||| tx) &&& (2 : Int32)) = 0)) ∧ (¬ ((ty &&& (1 : Int32)) = 0)))) ∨ ((¬ ((((0 : Int32) ||| tx) &&& (4 : Int32)) = 0)) ∧ (¬ ((ty &&& (8 : Int32)) = 0))) ∨ ((¬ ((((0 : Int32) ||| tx) &&& (8 : Int32)) = 0)) ∧ (¬ ((ty &&& (4 : Int32)) = 0))))) (zy := 1) (p := fun zz => zEv (d - 1) 286 50 [.ref n, .ref y, .retAddr 0] [.int zz, .ref n] (sI (sI (sI (sI (sI (sI (sI (sI (sI (sI (sI (sI S 145 n (q + 1)) 147 n (zbo ((bt 0 a) ∧ (bt 0 b) ∧ (bt 0 c)))) 148 n (zbo (((bt 0 a) ∧ (bt 1 b) ∧ (bt 1 c)) ∨ ((bt 1 a) ∧ (bt 0 b) ∧ (bt 0 c))))) 149 n 0) 150 n (zbo (bt 3 c))) 151 n (zbo ((bt 4 b) ∧ (bt 4 c)))) 152 n (zbo ((bt 5 c) ∧ ((bt 5 a) ∨ (bt 5 b))))) 153 n (zbo ((bt 6 c) ∧ ((bt 5 a) ∨ (bt 6 b))))) 154 n (zbo ((bt 7 c) ∧ ((bt 5 a) ∨ (bt 6 b))))) 155 n (zbo ((bt 8 a) ∧ (bt 8 b) ∧ (bt 8 c) ∧ (bt 7 a) ∧ ((bt 5 a) ∨ (bt 5 b) ∨ (bt 5 c))))) 156 n (zbo (bt 9 a))) 146 n ((0 : Int32) ||| tx)) pst108) (zbo_pos b147) J148)
                      refine zv_br ht110 rfl rfl rfl (fun b111 => ?_) (fun b111 => ?_)
                      · replace b111 : bt 9 a := Classical.byContradiction (fun h => b111 ((zbo_eq0 : (zbo (bt 9 a)) = 0 ↔ ¬ (bt 9 a)).mpr h))
                        exact zEv.wk (L := [.ref n, .ref y, .retAddr 0]) (L' := [.ref n, .ref y, .int 1]) (And.intro (Or.inl rfl) (And.intro (Or.inl rfl) (And.intro (Or.inr rfl) trivial))) (J146 (Or.inl b111))
                      · replace b111 : ¬ (bt 9 a) := (zbo_eq0 : (zbo (bt 9 a)) = 0 ↔ ¬ (bt 9 a)).mp (Classical.not_not.mp b111)
                        refine zv_c1 ht110 rfl rfl ?_
                        refine zv_ei (x := (0 : Int32) ||| tx) ht110 rfl rfl (zhas_of (htn) rfl) gI_sI_at ?_
                        refine zv_c1 ht110 rfl rfl ?_
                        refine zv_ei (x := ty) ht110 rfl rfl (zhas_nc hcy (by decide)) (Eq.trans (gI_sI_ne (by omega)) hty) ?_
                        refine zv_c1 ht110 rfl rfl (zv_c1 ht110 rfl rfl ?_)
                        have C113 : ∀ (pst112 : Outcome × zS → Prop), (pst112 (.returned (some (.int (zbo (((¬ ((((0 : Int32) ||| tx) &&& (1 : Int32)) = 0)) ∧ (¬ ((ty &&& (2 : Int32)) = 0))) ∨ ((¬ ((((0 : Int32) ||| tx) &&& (2 : Int32)) = 0)) ∧ (¬ ((ty &&& (1 : Int32)) = 0))))))), sI (sI (sI (sI (sI (sI (sI (sI (sI (sI (sI (sI S 145 n (q + 1)) 147 n (zbo ((bt 0 a) ∧ (bt 0 b) ∧ (bt 0 c)))) 148 n (zbo (((bt 0 a) ∧ (bt 1 b) ∧ (bt 1 c)) ∨ ((bt 1 a) ∧ (bt 0 b) ∧ (bt 0 c))))) 149 n 0) 150 n (zbo (bt 3 c))) 151 n (zbo ((bt 4 b) ∧ (bt 4 c)))) 152 n (zbo ((bt 5 c) ∧ ((bt 5 a) ∨ (bt 5 b))))) 153 n (zbo ((bt 6 c) ∧ ((bt 5 a) ∨ (bt 6 b))))) 154 n (zbo ((bt 7 c) ∧ ((bt 5 a) ∨ (bt 6 b))))) 155 n (zbo ((bt 8 a) ∧ (bt 8 b) ∧ (bt 8 c) ∧ (bt 7 a) ∧ ((bt 5 a) ∨ (bt 5 b) ∨ (bt 5 c))))) 156 n (zbo (bt 9 a))) 146 n ((0 : Int32) ||| tx))) → zCall ((d - 1) - 1) 9 [.int ((0 : Int32) ||| tx), .int ty, .int 1, .int 2] (sI (sI (sI (sI (sI (sI (sI (sI (sI (sI (sI (sI S 145 n (q + 1)) 147 n (zbo ((bt 0 a) ∧ (bt 0 b) ∧ (bt 0 c)))) 148 n (zbo (((bt 0 a) ∧ (bt 1 b) ∧ (bt 1 c)) ∨ ((bt 1 a) ∧ (bt 0 b) ∧ (bt 0 c))))) 149 n 0) 150 n (zbo (bt 3 c))) 151 n (zbo ((bt 4 b) ∧ (bt 4 c)))) 152 n (zbo ((bt 5 c) ∧ ((bt 5 a) ∨ (bt 5 b))))) 153 n (zbo ((bt 6 c) ∧ ((bt 5 a) ∨ (bt 6 b))))) 154 n (zbo ((bt 7 c) ∧ ((bt 5 a) ∨ (bt 6 b))))) 155 n (zbo ((bt 8 a) ∧ (bt 8 b) ∧ (bt 8 c) ∧ (bt 7 a) ∧ ((bt 5 a) ∨ (bt 5 b) ∨ (bt 5 c))))) 156 n (zbo (bt 9 a))) 146 n ((0 : Int32) ||| tx)) pst112 := by
                          intro pst112 k127
                          have ht114 : ztab 9 = ztb9 := rfl
                          show zEv ((d - 1) - 1) 9 0 [.int ((0 : Int32) ||| tx), .int ty, .int 1, .int 2] [] (sI (sI (sI (sI (sI (sI (sI (sI (sI (sI (sI (sI S 145 n (q + 1)) 147 n (zbo ((bt 0 a) ∧ (bt 0 b) ∧ (bt 0 c)))) 148 n (zbo (((bt 0 a) ∧ (bt 1 b) ∧ (bt 1 c)) ∨ ((bt 1 a) ∧ (bt 0 b) ∧ (bt 0 c))))) 149 n 0) 150 n (zbo (bt 3 c))) 151 n (zbo ((bt 4 b) ∧ (bt 4 c)))) 152 n (zbo ((bt 5 c) ∧ ((bt 5 a) ∨ (bt 5 b))))) 153 n (zbo ((bt 6 c) ∧ ((bt 5 a) ∨ (bt 6 b))))) 154 n (zbo ((bt 7 c) ∧ ((bt 5 a) ∨ (bt 6 b))))) 155 n (zbo ((bt 8 a) ∧ (bt 8 b) ∧ (bt 8 c) ∧ (bt 7 a) ∧ ((bt 5 a) ∨ (bt 5 b) ∨ (bt 5 c))))) 156 n (zbo (bt 9 a))) 146 n ((0 : Int32) ||| tx)) pst112
                          refine zv_c1 ht114 rfl rfl (zv_c1 ht114 rfl rfl ?_)
                          refine zv_c1 (st' := [.int (((0 : Int32) ||| tx) &&& (1 : Int32))]) (S' := sI (sI (sI (sI (sI (sI (sI (sI (sI (sI (sI (sI S 145 n (q + 1)) 147 n (zbo ((bt 0 a) ∧ (bt 0 b) ∧ (bt 0 c)))) 148 n (zbo (((bt 0 a) ∧ (bt 1 b) ∧ (bt 1 c)) ∨ ((bt 1 a) ∧ (bt 0 b) ∧ (bt 0 c))))) 149 n 0) 150 n (zbo (bt 3 c))) 151 n (zbo ((bt 4 b) ∧ (bt 4 c)))) 152 n (zbo ((bt 5 c) ∧ ((bt 5 a) ∨ (bt 5 b))))) 153 n (zbo ((bt 6 c) ∧ ((bt 5 a) ∨ (bt 6 b))))) 154 n (zbo ((bt 7 c) ∧ ((bt 5 a) ∨ (bt 6 b))))) 155 n (zbo ((bt 8 a) ∧ (bt 8 b) ∧ (bt 8 c) ∧ (bt 7 a) ∧ ((bt 5 a) ∨ (bt 5 b) ∨ (bt 5 c))))) 156 n (zbo (bt 9 a))) 146 n ((0 : Int32) ||| tx)) ht114 rfl rfl ?_
                          have J125 : zEv ((d - 1) - 1) 9 29 [.retAddr 0, .retAddr 0, .retAddr 0, .retAddr 0] [.int (zbo (((¬ ((((0 : Int32) ||| tx) &&& (1 : Int32)) = 0)) ∧ (¬ ((ty &&& (2 : Int32)) = 0))) ∨ ((¬ ((((0 : Int32) ||| tx) &&& (2 : Int32)) = 0)) ∧ (¬ ((ty &&& (1 : Int32)) = 0)))))] (sI (sI (sI (sI (sI (sI (sI (sI (sI (sI (sI (sI S 145 n (q + 1)) 147 n (zbo ((bt 0 a) ∧ (bt 0 b) ∧ (bt 0 c)))) 148 n (zbo (((bt 0 a) ∧ (bt 1 b) ∧ (bt 1 c)) ∨ ((bt 1 a) ∧ (bt 0 b) ∧ (bt 0 c))))) 149 n 0) 150 n (zbo (bt 3 c))) 151 n (zbo ((bt 4 b) ∧ (bt 4 c)))) 152 n (zbo ((bt 5 c) ∧ ((bt 5 a) ∨ (bt 5 b))))) 153 n (zbo ((bt 6 c) ∧ ((bt 5 a) ∨ (bt 6 b))))) 154 n (zbo ((bt 7 c) ∧ ((bt 5 a) ∨ (bt 6 b))))) 155 n (zbo ((bt 8 a) ∧ (bt 8 b) ∧ (bt 8 c) ∧ (bt 7 a) ∧ ((bt 5 a) ∨ (bt 5 b) ∨ (bt 5 c))))) 156 n (zbo (bt 9 a))) 146 n ((0 : Int32) ||| tx)) pst112 := by
                            exact zv_rc ht114 rfl rfl rfl rfl zbo_rng k127
                          have J123 : (((¬ ((((0 : Int32) ||| tx) &&& (1 : Int32)) = 0)) ∧ (¬ ((ty &&& (2 : Int32)) = 0))) ∨ ((¬ ((((0 : Int32) ||| tx) &&& (2 : Int32)) = 0)) ∧ (¬ ((ty &&& (1 : Int32)) = 0)))) → zEv ((d - 1) - 1) 9 24 [.retAddr 0, .retAddr 0, .retAddr 0, .retAddr 0] [] (sI (sI (sI (sI (sI (sI (sI (sI (sI (sI (sI (sI S 145 n (q + 1)) 147 n (zbo ((bt 0 a) ∧ (bt 0 b) ∧ (bt 0 c)))) 148 n (zbo (((bt 0 a) ∧ (bt 1 b) ∧ (bt 1 c)) ∨ ((bt 1 a) ∧ (bt 0 b) ∧ (bt 0 c))))) 149 n 0) 150 n (zbo (bt 3 c))) 151 n (zbo ((bt 4 b) ∧ (bt 4 c)))) 152 n (zbo ((bt 5 c) ∧ ((bt 5 a) ∨ (bt 5 b))))) 153 n (zbo ((bt 6 c) ∧ ((bt 5 a) ∨ (bt 6 b))))) 154 n (zbo ((bt 7 c) ∧ ((bt 5 a) ∨ (bt 6 b))))) 155 n (zbo ((bt 8 a) ∧ (bt 8 b) ∧ (bt 8 c) ∧ (bt 7 a) ∧ ((bt 5 a) ∨ (bt 5 b) ∨ (bt 5 c))))) 156 n (zbo (bt 9 a))) 146 n ((0 : Int32) ||| tx)) pst112 := by
                            intro b124
                            refine zv_c1 ht114 rfl rfl (zv_c1 ht114 rfl rfl ?_)
                            exact (zv_sub (zz := zbo (((¬ ((((0 : Int32) ||| tx) &&& (1 : Int32)) = 0)) ∧ (¬ ((ty &&& (2 : Int32)) = 0))) ∨ ((¬ ((((0 : Int32) ||| tx) &&& (2 : Int32)) = 0)) ∧ (¬ ((ty &&& (1 : Int32)) = 0))))) (zy := 1) (p := fun zz => zEv ((d - 1) - 1) 9 29 [.retAddr 0, .retAddr 0, .retAddr 0, .retAddr 0] [.int zz] (sI (sI (sI (sI (sI (sI (sI (sI (sI (sI (sI (sI S 145 n (q + 1)) 147 n (zbo ((bt 0 a) ∧ (bt 0 b) ∧ (bt 0 c)))) 148 n (zbo (((bt 0 a) ∧ (bt 1 b) ∧ (bt 1 c)) ∨ ((bt 1 a) ∧ (bt 0 b) ∧ (bt 0 c))))) 149 n 0) 150 n (zbo (bt 3 c))) 151 n (zbo ((bt 4 b) ∧ (bt 4 c)))) 152 n (zbo ((bt 5 c) ∧ ((bt 5 a) ∨ (bt 5 b))))) 153 n (zbo ((bt 6 c) ∧ ((bt 5 a) ∨ (bt 6 b))))) 154 n (zbo ((bt 7 c) ∧ ((bt 5 a) ∨ (bt 6 b))))) 155 n (zbo ((bt 8 a) ∧ (bt 8 b) ∧ (bt 8 c) ∧ (bt 7 a) ∧ ((bt 5 a) ∨ (bt 5 b) ∨ (bt 5 c))))) 156 n (zbo (bt 9 a))) 146 n ((0 : Int32) ||| tx)) pst112) (zbo_pos b124) J125)
                          have J117 : (((((0 : Int32) ||| tx) &&& (1 : Int32)) = 0) ∨ ((ty &&& (2 : Int32)) = 0)) → zEv ((d - 1) - 1) 9 12 [.int ((0 : Int32) ||| tx), .int ty, .int 1, .int 2] [] (sI (sI (sI (sI (sI (sI (sI (sI (sI (sI (sI (sI S 145 n (q + 1)) 147 n (zbo ((bt 0 a) ∧ (bt 0 b) ∧ (bt 0 c)))) 148 n (zbo (((bt 0 a) ∧ (bt 1 b) ∧ (bt 1 c)) ∨ ((bt 1 a) ∧ (bt 0 b) ∧ (bt 0 c))))) 149 n 0) 150 n (zbo (bt 3 c))) 151 n (zbo ((bt 4 b) ∧ (bt 4 c)))) 152 n (zbo ((bt 5 c) ∧ ((bt 5 a) ∨ (bt 5 b))))) 153 n (zbo ((bt 6 c) ∧ ((bt 5 a) ∨ (bt 6 b))))) 154 n (zbo ((bt 7 c) ∧ ((bt 5 a) ∨ (bt 6 b))))) 155 n (zbo ((bt 8 a) ∧ (bt 8 b) ∧ (bt 8 c) ∧ (bt 7 a) ∧ ((bt 5 a) ∨ (bt 5 b) ∨ (bt 5 c))))) 156 n (zbo (bt 9 a))) 146 n ((0 : Int32) ||| tx)) pst112 := by
                            intro b118
                            refine zv_c1 ht114 rfl rfl (zv_c1 ht114 rfl rfl ?_)
                            refine zv_c1 (st' := [.int (((0 : Int32) ||| tx) &&& (2 : Int32))]) (S' := sI (sI (sI (sI (sI (sI (sI (sI (sI (sI (sI (sI S 145 n (q + 1)) 147 n (zbo ((bt 0 a) ∧ (bt 0 b) ∧ (bt 0 c)))) 148 n (zbo (((bt 0 a) ∧ (bt 1 b) ∧ (bt 1 c)) ∨ ((bt 1 a) ∧ (bt 0 b) ∧ (bt 0 c))))) 149 n 0) 150 n (zbo (bt 3 c))) 151 n (zbo ((bt 4 b) ∧ (bt 4 c)))) 152 n (zbo ((bt 5 c) ∧ ((bt 5 a) ∨ (bt 5 b))))) 153 n (zbo ((bt 6 c) ∧ ((bt 5 a) ∨ (bt 6 b))))) 154 n (zbo ((bt 7 c) ∧ ((bt 5 a) ∨ (bt 6 b))))) 155 n (zbo ((bt 8 a) ∧ (bt 8 b) ∧ (bt 8 c) ∧ (bt 7 a) ∧ ((bt 5 a) ∨ (bt 5 b) ∨ (bt 5 c))))) 156 n (zbo (bt 9 a))) 146 n ((0 : Int32) ||| tx)) ht114 rfl rfl ?_
                            have J121 : (((((0 : Int32) ||| tx) &&& (2 : Int32)) = 0) ∨ ((ty &&& (1 : Int32)) = 0)) → zEv ((d - 1) - 1) 9 28 [.retAddr 0, .retAddr 0, .retAddr 0, .retAddr 0] [] (sI (sI (sI (sI (sI (sI (sI (sI (sI (sI (sI (sI S 145 n (q + 1)) 147 n (zbo ((bt 0 a) ∧ (bt 0 b) ∧ (bt 0 c)))) 148 n (zbo (((bt 0 a) ∧ (bt 1 b) ∧ (bt 1 c)) ∨ ((bt 1 a) ∧ (bt 0 b) ∧ (bt 0 c))))) 149 n 0) 150 n (zbo (bt 3 c))) 151 n (zbo ((bt 4 b) ∧ (bt 4 c)))) 152 n (zbo ((bt 5 c) ∧ ((bt 5 a) ∨ (bt 5 b))))) 153 n (zbo ((bt 6 c) ∧ ((bt 5 a) ∨ (bt 6 b))))) 154 n (zbo ((bt 7 c) ∧ ((bt 5 a) ∨ (bt 6 b))))) 155 n (zbo ((bt 8 a) ∧ (bt 8 b) ∧ (bt 8 c) ∧ (bt 7 a) ∧ ((bt 5 a) ∨ (bt 5 b) ∨ (bt 5 c))))) 156 n (zbo (bt 9 a))) 146 n ((0 : Int32) ||| tx)) pst112 := by
                              intro b122
                              refine zv_c1 ht114 rfl rfl ?_
                              exact (zv_sub (zz := zbo (((¬ ((((0 : Int32) ||| tx) &&& (1 : Int32)) = 0)) ∧ (¬ ((ty &&& (2 : Int32)) = 0))) ∨ ((¬ ((((0 : Int32) ||| tx) &&& (2 : Int32)) = 0)) ∧ (¬ ((ty &&& (1 : Int32)) = 0))))) (zy := 0) (p := fun zz => zEv ((d - 1) - 1) 9 29 [.retAddr 0, .retAddr 0, .retAddr 0, .retAddr 0] [.int zz] (sI (sI (sI (sI (sI (sI (sI (sI (sI (sI (sI (sI S 145 n (q + 1)) 147 n (zbo ((bt 0 a) ∧ (bt 0 b) ∧ (bt 0 c)))) 148 n (zbo (((bt 0 a) ∧ (bt 1 b) ∧ (bt 1 c)) ∨ ((bt 1 a) ∧ (bt 0 b) ∧ (bt 0 c))))) 149 n 0) 150 n (zbo (bt 3 c))) 151 n (zbo ((bt 4 b) ∧ (bt 4 c)))) 152 n (zbo ((bt 5 c) ∧ ((bt 5 a) ∨ (bt 5 b))))) 153 n (zbo ((bt 6 c) ∧ ((bt 5 a) ∨ (bt 6 b))))) 154 n (zbo ((bt 7 c) ∧ ((bt 5 a) ∨ (bt 6 b))))) 155 n (zbo ((bt 8 a) ∧ (bt 8 b) ∧ (bt 8 c) ∧ (bt 7 a) ∧ ((bt 5 a) ∨ (bt 5 b) ∨ (bt 5 c))))) 156 n (zbo (bt 9 a))) 146 n ((0 : Int32) ||| tx)) pst112) (zbo_neg (b118.elim (fun y1 => (b122.elim (fun y2 => (fun h => h.elim (fun h => (fun h => h y1) h.1) (fun h => (fun h => h y2) h.1))) (fun y2 => (fun h => h.elim (fun h => (fun h => h y1) h.1) (fun h => (fun h => h y2) h.2))))) (fun y1 => (b122.elim (fun y2 => (fun h => h.elim (fun h => (fun h => h y1) h.2) (fun h => (fun h => h y2) h.1))) (fun y2 => (fun h => h.elim (fun h => (fun h => h y1) h.2) (fun h => (fun h => h y2) h.2))))))) J125)
                            refine zv_br ht114 rfl rfl rfl (fun b119 => ?_) (fun b119 => ?_)
                            · exact zEv.wk (L := [.retAddr 0, .retAddr 0, .retAddr 0, .retAddr 0]) (L' := [.int ((0 : Int32) ||| tx), .int ty, .int 1, .int 2]) (And.intro (Or.inr rfl) (And.intro (Or.inr rfl) (And.intro (Or.inr rfl) (And.intro (Or.inr rfl) trivial)))) (J121 (Or.inl b119))
                            · refine zv_c1 ht114 rfl rfl (zv_c1 ht114 rfl rfl ?_)
                              refine zv_c1 (st' := [.int (ty &&& (1 : Int32))]) (S' := sI (sI (sI (sI (sI (sI (sI (sI (sI (sI (sI (sI S 145 n (q + 1)) 147 n (zbo ((bt 0 a) ∧ (bt 0 b) ∧ (bt 0 c)))) 148 n (zbo (((bt 0 a) ∧ (bt 1 b) ∧ (bt 1 c)) ∨ ((bt 1 a) ∧ (bt 0 b) ∧ (bt 0 c))))) 149 n 0) 150 n (zbo (bt 3 c))) 151 n (zbo ((bt 4 b) ∧ (bt 4 c)))) 152 n (zbo ((bt 5 c) ∧ ((bt 5 a) ∨ (bt 5 b))))) 153 n (zbo ((bt 6 c) ∧ ((bt 5 a) ∨ (bt 6 b))))) 154 n (zbo ((bt 7 c) ∧ ((bt 5 a) ∨ (bt 6 b))))) 155 n (zbo ((bt 8 a) ∧ (bt 8 b) ∧ (bt 8 c) ∧ (bt 7 a) ∧ ((bt 5 a) ∨ (bt 5 b) ∨ (bt 5 c))))) 156 n (zbo (bt 9 a))) 146 n ((0 : Int32) ||| tx)) ht114 rfl rfl ?_
                              refine zv_br ht114 rfl rfl rfl (fun b120 => ?_) (fun b120 => ?_)
                              · exact zEv.wk (L := [.retAddr 0, .retAddr 0, .retAddr 0, .retAddr 0]) (L' := [.int ((0 : Int32) ||| tx), .int ty, .int 1, .int 2]) (And.intro (Or.inr rfl) (And.intro (Or.inr rfl) (And.intro (Or.inr rfl) (And.intro (Or.inr rfl) trivial)))) (J121 (Or.inr b120))
                              · exact zEv.wk (L := [.retAddr 0, .retAddr 0, .retAddr 0, .retAddr 0]) (L' := [.int ((0 : Int32) ||| tx), .int ty, .int 1, .int 2]) (And.intro (Or.inr rfl) (And.intro (Or.inr rfl) (And.intro (Or.inr rfl) (And.intro (Or.inr rfl) trivial)))) (J123 (Or.inr ⟨b119, b120⟩))
                          refine zv_br ht114 rfl rfl rfl (fun b115 => ?_) (fun b115 => ?_)
                          · exact (J117 (Or.inl b115))
                          · refine zv_c1 ht114 rfl rfl (zv_c1 ht114 rfl rfl ?_)
                            refine zv_c1 (st' := [.int (ty &&& (2 : Int32))]) (S' := sI (sI (sI (sI (sI (sI (sI (sI (sI (sI (sI (sI S 145 n (q + 1)) 147 n (zbo ((bt 0 a) ∧ (bt 0 b) ∧ (bt 0 c)))) 148 n (zbo (((bt 0 a) ∧ (bt 1 b) ∧ (bt 1 c)) ∨ ((bt 1 a) ∧ (bt 0 b) ∧ (bt 0 c))))) 149 n 0) 150 n (zbo (bt 3 c))) 151 n (zbo ((bt 4 b) ∧ (bt 4 c)))) 152 n (zbo ((bt 5 c) ∧ ((bt 5 a) ∨ (bt 5 b))))) 153 n (zbo ((bt 6 c) ∧ ((bt 5 a) ∨ (bt 6 b))))) 154 n (zbo ((bt 7 c) ∧ ((bt 5 a) ∨ (bt 6 b))))) 155 n (zbo ((bt 8 a) ∧ (bt 8 b) ∧ (bt 8 c) ∧ (bt 7 a) ∧ ((bt 5 a) ∨ (bt 5 b) ∨ (bt 5 c))))) 156 n (zbo (bt 9 a))) 146 n ((0 : Int32) ||| tx)) ht114 rfl rfl ?_
                            refine zv_br ht114 rfl rfl rfl (fun b116 => ?_) (fun b116 => ?_)
                            · exact zEv.wk (L := [.retAddr 0, .retAddr 0, .retAddr 0, .retAddr 0]) (L' := [.int ((0 : Int32) ||| tx), .int ty, .int 1, .int 2]) (And.intro (Or.inr rfl) (And.intro (Or.inr rfl) (And.intro (Or.inr rfl) (And.intro (Or.inr rfl) trivial)))) (J123 (Or.inl ⟨b115, b116⟩))
                            · replace b116 : (ty &&& (2 : Int32)) = 0 := Classical.not_not.mp b116
                              exact (J117 (Or.inr b116))
                        refine zv_cl ht110 rfl rfl rfl rfl (by omega) (Nat.le_of_ble_eq_true rfl) (C113 _ ?_)
                        show zEv (d - 1) 286 25 [.ref n, .ref y, .int 1] [.int (zbo (((¬ ((((0 : Int32) ||| tx) &&& (1 : Int32)) = 0)) ∧ (¬ ((ty &&& (2 : Int32)) = 0))) ∨ ((¬ ((((0 : Int32) ||| tx) &&& (2 : Int32)) = 0)) ∧ (¬ ((ty &&& (1 : Int32)) = 0))))), .ref n] (sI (sI (sI (sI (sI (sI (sI (sI (sI (sI (sI (sI S 145 n (q + 1)) 147 n (zbo ((bt 0 a) ∧ (bt 0 b) ∧ (bt 0 c)))) 148 n (zbo (((bt 0 a) ∧ (bt 1 b) ∧ (bt 1 c)) ∨ ((bt 1 a) ∧ (bt 0 b) ∧ (bt 0 c))))) 149 n 0) 150 n (zbo (bt 3 c))) 151 n (zbo ((bt 4 b) ∧ (bt 4 c)))) 152 n (zbo ((bt 5 c) ∧ ((bt 5 a) ∨ (bt 5 b))))) 153 n (zbo ((bt 6 c) ∧ ((bt 5 a) ∨ (bt 6 b))))) 154 n (zbo ((bt 7 c) ∧ ((bt 5 a) ∨ (bt 6 b))))) 155 n (zbo ((bt 8 a) ∧ (bt 8 b) ∧ (bt 8 c) ∧ (bt 7 a) ∧ ((bt 5 a) ∨ (bt 5 b) ∨ (bt 5 c))))) 156 n (zbo (bt 9 a))) 146 n ((0 : Int32) ||| tx)) pst108
                        refine zv_br ht110 rfl rfl rfl (fun b128 => ?_) (fun b128 => ?_)
                        · replace b128 : ((¬ ((((0 : Int32) ||| tx) &&& (1 : Int32)) = 0)) ∧ (¬ ((ty &&& (2 : Int32)) = 0))) ∨ ((¬ ((((0 : Int32) ||| tx) &&& (2 : Int32)) = 0)) ∧ (¬ ((ty &&& (1 : Int32)) = 0))) := Classical.byContradiction (fun h => b128 ((zbo_eq0 : (zbo (((¬ ((((0 : Int32) ||| tx) &&& (1 : Int32)) = 0)) ∧ (¬ ((ty &&& (2 : Int32)) = 0))) ∨ ((¬ ((((0 : Int32) ||| tx) &&& (2 : Int32)) = 0)) ∧ (¬ ((ty &&& (1 : Int32)) = 0))))) = 0 ↔ ¬ (((¬ ((((0 : Int32) ||| tx) &&& (1 : Int32)) = 0)) ∧ (¬ ((ty &&& (2 : Int32)) = 0))) ∨ ((¬ ((((0 : Int32) ||| tx) &&& (2 : Int32)) = 0)) ∧ (¬ ((ty &&& (1 : Int32)) = 0))))).mpr h))
                          exact zEv.wk (L := [.ref n, .ref y, .retAddr 0]) (L' := [.ref n, .ref y, .int 1]) (And.intro (Or.inl rfl) (And.intro (Or.inl rfl) (And.intro (Or.inr rfl) trivial))) (J146 (Or.inr (Or.inl b128)))
                        · replace b128 : ¬ (((¬ ((((0 : Int32) ||| tx) &&& (1 : Int32)) = 0)) ∧ (¬ ((ty &&& (2 : Int32)) = 0))) ∨ ((¬ ((((0 : Int32) ||| tx) &&& (2 : Int32)) = 0)) ∧ (¬ ((ty &&& (1 : Int32)) = 0)))) := (zbo_eq0 : (zbo (((¬ ((((0 : Int32) ||| tx) &&& (1 : Int32)) = 0)) ∧ (¬ ((ty &&& (2 : Int32)) = 0))) ∨ ((¬ ((((0 : Int32) ||| tx) &&& (2 : Int32)) = 0)) ∧ (¬ ((ty &&& (1 : Int32)) = 0))))) = 0 ↔ ¬ (((¬ ((((0 : Int32) ||| tx) &&& (1 : Int32)) = 0)) ∧ (¬ ((ty &&& (2 : Int32)) = 0))) ∨ ((¬ ((((0 : Int32) ||| tx) &&& (2 : Int32)) = 0)) ∧ (¬ ((ty &&& (1 : Int32)) = 0))))).mp (Classical.not_not.mp b128)
                          refine zv_c1 ht110 rfl rfl ?_
                          refine zv_ei (x := (0 : Int32) ||| tx) ht110 rfl rfl (zhas_of (htn) rfl) gI_sI_at ?_
                          refine zv_c1 ht110 rfl rfl ?_
                          refine zv_ei (x := ty) ht110 rfl rfl (zhas_nc hcy (by decide)) (Eq.trans (gI_sI_ne (by omega)) hty) ?_
                          refine zv_c1 ht110 rfl rfl (zv_c1 ht110 rfl rfl ?_)
                          have C130 : ∀ (pst129 : Outcome × zS → Prop), (pst129 (.returned (some (.int (zbo (((¬ ((((0 : Int32) ||| tx) &&& (4 : Int32)) = 0)) ∧ (¬ ((ty &&& (8 : Int32)) = 0))) ∨ ((¬ ((((0 : Int32) ||| tx) &&& (8 : Int32)) = 0)) ∧ (¬ ((ty &&& (4 : Int32)) = 0))))))), sI (sI (sI (sI (sI (sI (sI (sI (sI (sI (sI (sI S 145 n (q + 1)) 147 n (zbo ((bt 0 a) ∧ (bt 0 b) ∧ (bt 0 c)))) 148 n (zbo (((bt 0 a) ∧ (bt 1 b) ∧ (bt 1 c)) ∨ ((bt 1 a) ∧ (bt 0 b) ∧ (bt 0 c))))) 149 n 0) 150 n (zbo (bt 3 c))) 151 n (zbo ((bt 4 b) ∧ (bt 4 c)))) 152 n (zbo ((bt 5 c) ∧ ((bt 5 a) ∨ (bt 5 b))))) 153 n (zbo ((bt 6 c) ∧ ((bt 5 a) ∨ (bt 6 b))))) 154 n (zbo ((bt 7 c) ∧ ((bt 5 a) ∨ (bt 6 b))))) 155 n (zbo ((bt 8 a) ∧ (bt 8 b) ∧ (bt 8 c) ∧ (bt 7 a) ∧ ((bt 5 a) ∨ (bt 5 b) ∨ (bt 5 c))))) 156 n (zbo (bt 9 a))) 146 n ((0 : Int32) ||| tx))) → zCall ((d - 1) - 1) 9 [.int ((0 : Int32) ||| tx), .int ty, .int 4, .int 8] (sI (sI (sI (sI (sI (sI (sI (sI (sI (sI (sI (sI S 145 n (q + 1)) 147 n (zbo ((bt 0 a) ∧ (bt 0 b) ∧ (bt 0 c)))) 148 n (zbo (((bt 0 a) ∧ (bt 1 b) ∧ (bt 1 c)) ∨ ((bt 1 a) ∧ (bt 0 b) ∧ (bt 0 c))))) 149 n 0) 150 n (zbo (bt 3 c))) 151 n (zbo ((bt 4 b) ∧ (bt 4 c)))) 152 n (zbo ((bt 5 c) ∧ ((bt 5 a) ∨ (bt 5 b))))) 153 n (zbo ((bt 6 c) ∧ ((bt 5 a) ∨ (bt 6 b))))) 154 n (zbo ((bt 7 c) ∧ ((bt 5 a) ∨ (bt 6 b))))) 155 n (zbo ((bt 8 a) ∧ (bt 8 b) ∧ (bt 8 c) ∧ (bt 7 a) ∧ ((bt 5 a) ∨ (bt 5 b) ∨ (bt 5 c))))) 156 n (zbo (bt 9 a))) 146 n ((0 : Int32) ||| tx)) pst129 := by
                            intro pst129 k144
                            have ht131 : ztab 9 = ztb9 := rfl
                            show zEv ((d - 1) - 1) 9 0 [.int ((0 : Int32) ||| tx), .int ty, .int 4, .int 8] [] (sI (sI (sI (sI (sI (sI (sI (sI (sI (sI (sI (sI S 145 n (q + 1)) 147 n (zbo ((bt 0 a) ∧ (bt 0 b) ∧ (bt 0 c)))) 148 n (zbo (((bt 0 a) ∧ (bt 1 b) ∧ (bt 1 c)) ∨ ((bt 1 a) ∧ (bt 0 b) ∧ (bt 0 c))))) 149 n 0) 150 n (zbo (bt 3 c))) 151 n (zbo ((bt 4 b) ∧ (bt 4 c)))) 152 n (zbo ((bt 5 c) ∧ ((bt 5 a) ∨ (bt 5 b))))) 153 n (zbo ((bt 6 c) ∧ ((bt 5 a) ∨ (bt 6 b))))) 154 n (zbo ((bt 7 c) ∧ ((bt 5 a) ∨ (bt 6 b))))) 155 n (zbo ((bt 8 a) ∧ (bt 8 b) ∧ (bt 8 c) ∧ (bt 7 a) ∧ ((bt 5 a) ∨ (bt 5 b) ∨ (bt 5 c))))) 156 n (zbo (bt 9 a))) 146 n ((0 : Int32) ||| tx)) pst129
                            refine zv_c1 ht131 rfl rfl (zv_c1 ht131 rfl rfl ?_)
                            refine zv_c1 (st' := [.int (((0 : Int32) ||| tx) &&& (4 : Int32))]) (S' := sI (sI (sI (sI (sI (sI (sI (sI (sI (sI (sI (sI S 145 n (q + 1)) 147 n (zbo ((bt 0 a) ∧ (bt 0 b) ∧ (bt 0 c)))) 148 n (zbo (((bt 0 a) ∧ (bt 1 b) ∧ (bt 1 c)) ∨ ((bt 1 a) ∧ (bt 0 b) ∧ (bt 0 c))))) 149 n 0) 150 n (zbo (bt 3 c))) 151 n (zbo ((bt 4 b) ∧ (bt 4 c)))) 152 n (zbo ((bt 5 c) ∧ ((bt 5 a) ∨ (bt 5 b))))) 153 n (zbo ((bt 6 c) ∧ ((bt 5 a) ∨ (bt 6 b))))) 154 n (zbo ((bt 7 c) ∧ ((bt 5 a) ∨ (bt 6 b))))) 155 n (zbo ((bt 8 a) ∧ (bt 8 b) ∧ (bt 8 c) ∧ (bt 7 a) ∧ ((bt 5 a) ∨ (bt 5 b) ∨ (bt 5 c))))) 156 n (zbo (bt 9 a))) 146 n ((0 : Int32) ||| tx)) ht131 rfl rfl ?_
                            have J142 : zEv ((d - 1) - 1) 9 29 [.retAddr 0, .retAddr 0, .retAddr 0, .retAddr 0] [.int (zbo (((¬ ((((0 : Int32) ||| tx) &&& (4 : Int32)) = 0)) ∧ (¬ ((ty &&& (8 : Int32)) = 0))) ∨ ((¬ ((((0 : Int32) ||| tx) &&& (8 : Int32)) = 0)) ∧ (¬ ((ty &&& (4 : Int32)) = 0)))))] (sI (sI (sI (sI (sI (sI (sI (sI (sI (sI (sI (sI S 145 n (q + 1)) 147 n (zbo ((bt 0 a) ∧ (bt 0 b) ∧ (bt 0 c)))) 148 n (zbo (((bt 0 a) ∧ (bt 1 b) ∧ (bt 1 c)) ∨ ((bt 1 a) ∧ (bt 0 b) ∧ (bt 0 c))))) 149 n 0) 150 n (zbo (bt 3 c))) 151 n (zbo ((bt 4 b) ∧ (bt 4 c)))) 152 n (zbo ((bt 5 c) ∧ ((bt 5 a) ∨ (bt 5 b))))) 153 n (zbo ((bt 6 c) ∧ ((bt 5 a) ∨ (bt 6 b))))) 154 n (zbo ((bt 7 c) ∧ ((bt 5 a) ∨ (bt 6 b))))) 155 n (zbo ((bt 8 a) ∧ (bt 8 b) ∧ (bt 8 c) ∧ (bt 7 a) ∧ ((bt 5 a) ∨ (bt 5 b) ∨ (bt 5 c))))) 156 n (zbo (bt 9 a))) 146 n ((0 : Int32) ||| tx)) pst129 := by
                              exact zv_rc ht131 rfl rfl rfl rfl zbo_rng k144
                            have J140 : (((¬ ((((0 : Int32) ||| tx) &&& (4 : Int32)) = 0)) ∧ (¬ ((ty &&& (8 : Int32)) = 0))) ∨ ((¬ ((((0 : Int32) ||| tx) &&& (8 : Int32)) = 0)) ∧ (¬ ((ty &&& (4 : Int32)) = 0)))) → zEv ((d - 1) - 1) 9 24 [.retAddr 0, .retAddr 0, .retAddr 0, .retAddr 0] [] (sI (sI (sI (sI (sI (sI (sI (sI (sI (sI (sI (sI S 145 n (q + 1)) 147 n (zbo ((bt 0 a) ∧ (bt 0 b) ∧ (bt 0 c)))) 148 n (zbo (((bt 0 a) ∧ (bt 1 b) ∧ (bt 1 c)) ∨ ((bt 1 a) ∧ (bt 0 b) ∧ (bt 0 c))))) 149 n 0) 150 n (zbo (bt 3 c))) 151 n (zbo ((bt 4 b) ∧ (bt 4 c)))) 152 n (zbo ((bt 5 c) ∧ ((bt 5 a) ∨ (bt 5 b))))) 153 n (zbo ((bt 6 c) ∧ ((bt 5 a) ∨ (bt 6 b))))) 154 n (zbo ((bt 7 c) ∧ ((bt 5 a) ∨ (bt 6 b))))) 155 n (zbo ((bt 8 a) ∧ (bt 8 b) ∧ (bt 8 c) ∧ (bt 7 a) ∧ ((bt 5 a) ∨ (bt 5 b) ∨ (bt 5 c))))) 156 n (zbo (bt 9 a))) 146 n ((0 : Int32) ||| tx)) pst129 := by
                              intro b141
                              refine zv_c1 ht131 rfl rfl (zv_c1 ht131 rfl rfl ?_)
                              exact (zv_sub (zz := zbo (((¬ ((((0 : Int32) ||| tx) &&& (4 : Int32)) = 0)) ∧ (¬ ((ty &&& (8 : Int32)) = 0))) ∨ ((¬ ((((0 : Int32) ||| tx) &&& (8 : Int32)) = 0)) ∧ (¬ ((ty &&& (4 : Int32)) = 0))))) (zy := 1) (p := fun zz => zEv ((d - 1) - 1) 9 29 [.retAddr 0, .retAddr 0, .retAddr 0, .retAddr 0] [.int zz] (sI (sI (sI (sI (sI (sI (sI (sI (sI (sI (sI (sI S 145 n (q + 1)) 147 n (zbo ((bt 0 a) ∧ (bt 0 b) ∧ (bt 0 c)))) 148 n (zbo (((bt 0 a) ∧ (bt 1 b) ∧ (bt 1 c)) ∨ ((bt 1 a) ∧ (bt 0 b) ∧ (bt 0 c))))) 149 n 0) 150 n (zbo (bt 3 c))) 151 n (zbo ((bt 4 b) ∧ (bt 4 c)))) 152 n (zbo ((bt 5 c) ∧ ((bt 5 a) ∨ (bt 5 b))))) 153 n (zbo ((bt 6 c) ∧ ((bt 5 a) ∨ (bt 6 b))))) 154 n (zbo ((bt 7 c) ∧ ((bt 5 a) ∨ (bt 6 b))))) 155 n (zbo ((bt 8 a) ∧ (bt 8 b) ∧ (bt 8 c) ∧ (bt 7 a) ∧ ((bt 5 a) ∨ (bt 5 b) ∨ (bt 5 c))))) 156 n (zbo (bt 9 a))) 146 n ((0 : Int32) ||| tx)) pst129) (zbo_pos b141) J142)
                            have J134 : (((((0 : Int32) ||| tx) &&& (4 : Int32)) = 0) ∨ ((ty &&& (8 : Int32)) = 0)) → zEv ((d - 1) - 1) 9 12 [.int ((0 : Int32) ||| tx), .int ty, .int 4, .int 8] [] (sI (sI (sI (sI (sI (sI (sI (sI (sI (sI (sI (sI S 145 n (q + 1)) 147 n (zbo ((bt 0 a) ∧ (bt 0 b) ∧ (bt 0 c)))) 148 n (zbo (((bt 0 a) ∧ (bt 1 b) ∧ (bt 1 c)) ∨ ((bt 1 a) ∧ (bt 0 b) ∧ (bt 0 c))))) 149 n 0) 150 n (zbo (bt 3 c))) 151 n (zbo ((bt 4 b) ∧ (bt 4 c)))) 152 n (zbo ((bt 5 c) ∧ ((bt 5 a) ∨ (bt 5 b))))) 153 n (zbo ((bt 6 c) ∧ ((bt 5 a) ∨ (bt 6 b))))) 154 n (zbo ((bt 7 c) ∧ ((bt 5 a) ∨ (bt 6 b))))) 155 n (zbo ((bt 8 a) ∧ (bt 8 b) ∧ (bt 8 c) ∧ (bt 7 a) ∧ ((bt 5 a) ∨ (bt 5 b) ∨ (bt 5 c))))) 156 n (zbo (bt 9 a))) 146 n ((0 : Int32) ||| tx)) pst129 := by
                              intro b135
                              refine zv_c1 ht131 rfl rfl (zv_c1 ht131 rfl rfl ?_)
                              refine zv_c1 (st' := [.int (((0 : Int32) ||| tx) &&& (8 : Int32))]) (S' := sI (sI (sI (sI (sI (sI (sI (sI (sI (sI (sI (sI S 145 n (q + 1)) 147 n (zbo ((bt 0 a) ∧ (bt 0 b) ∧ (bt 0 c)))) 148 n (zbo (((bt 0 a) ∧ (bt 1 b) ∧ (bt 1 c)) ∨ ((bt 1 a) ∧ (bt 0 b) ∧ (bt 0 c))))) 149 n 0) 150 n (zbo (bt 3 c))) 151 n (zbo ((bt 4 b) ∧ (bt 4 c)))) 152 n (zbo ((bt 5 c) ∧ ((bt 5 a) ∨ (bt 5 b))))) 153 n (zbo ((bt 6 c) ∧ ((bt 5 a) ∨ (bt 6 b))))) 154 n (zbo ((bt 7 c) ∧ ((bt 5 a) ∨ (bt 6 b))))) 155 n (zbo ((bt 8 a) ∧ (bt 8 b) ∧ (bt 8 c) ∧ (bt 7 a) ∧ ((bt 5 a) ∨ (bt 5 b) ∨ (bt 5 c))))) 156 n (zbo (bt 9 a))) 146 n ((0 : Int32) ||| tx)) ht131 rfl rfl ?_
                              have J138 : (((((0 : Int32) ||| tx) &&& (8 : Int32)) = 0) ∨ ((ty &&& (4 : Int32)) = 0)) → zEv ((d - 1) - 1) 9 28 [.retAddr 0, .retAddr 0, .retAddr 0, .retAddr 0] [] (sI (sI (sI (sI (sI (sI (sI (sI (sI (sI (sI (sI S 145 n (q + 1)) 147 n (zbo ((bt 0 a) ∧ (bt 0 b) ∧ (bt 0 c)))) 148 n (zbo (((bt 0 a) ∧ (bt 1 b) ∧ (bt 1 c)) ∨ ((bt 1 a) ∧ (bt 0 b) ∧ (bt 0 c))))) 149 n 0) 150 n (zbo (bt 3 c))) 151 n (zbo ((bt 4 b) ∧ (bt 4 c)))) 152 n (zbo ((bt 5 c) ∧ ((bt 5 a) ∨ (bt 5 b))))) 153 n (zbo ((bt 6 c) ∧ ((bt 5 a) ∨ (bt 6 b))))) 154 n (zbo ((bt 7 c) ∧ ((bt 5 a) ∨ (bt 6 b))))) 155 n (zbo ((bt 8 a) ∧ (bt 8 b) ∧ (bt 8 c) ∧ (bt 7 a) ∧ ((bt 5 a) ∨ (bt 5 b) ∨ (bt 5 c))))) 156 n (zbo (bt 9 a))) 146 n ((0 : Int32) ||| tx)) pst129 := by
                                intro b139
                                refine zv_c1 ht131 rfl rfl ?_
                                exact (zv_sub (zz := zbo (((¬ ((((0 : Int32) ||| tx) &&& (4 : Int32)) = 0)) ∧ (¬ ((ty &&& (8 : Int32)) = 0))) ∨ ((¬ ((((0 : Int32) ||| tx) &&& (8 : Int32)) = 0)) ∧ (¬ ((ty &&& (4 : Int32)) = 0))))) (zy := 0) (p := fun zz => zEv ((d - 1) - 1) 9 29 [.retAddr 0, .retAddr 0, .retAddr 0, .retAddr 0] [.int zz] (sI (sI (sI (sI (sI (sI (sI (sI (sI (sI (sI (sI S 145 n (q + 1)) 147 n (zbo ((bt 0 a) ∧ (bt 0 b) ∧ (bt 0 c)))) 148 n (zbo (((bt 0 a) ∧ (bt 1 b) ∧ (bt 1 c)) ∨ ((bt 1 a) ∧ (bt 0 b) ∧ (bt 0 c))))) 149 n 0) 150 n (zbo (bt 3 c))) 151 n (zbo ((bt 4 b) ∧ (bt 4 c)))) 152 n (zbo ((bt 5 c) ∧ ((bt 5 a) ∨ (bt 5 b))))) 153 n (zbo ((bt 6 c) ∧ ((bt 5 a) ∨ (bt 6 b))))) 154 n (zbo ((bt 7 c) ∧ ((bt 5 a) ∨ (bt 6 b))))) 155 n (zbo ((bt 8 a) ∧ (bt 8 b) ∧ (bt 8 c) ∧ (bt 7 a) ∧ ((bt 5 a) ∨ (bt 5 b) ∨ (bt 5 c))))) 156 n (zbo (bt 9 a))) 146 n ((0 : Int32) ||| tx)) pst129) (zbo_neg (b135.elim (fun y1 => (b139.elim (fun y2 => (fun h => h.elim (fun h => (fun h => h y1) h.1) (fun h => (fun h => h y2) h.1))) (fun y2 => (fun h => h.elim (fun h => (fun h => h y1) h.1) (fun h => (fun h => h y2) h.2))))) (fun y1 => (b139.elim (fun y2 => (fun h => h.elim (fun h => (fun h => h y1) h.2) (fun h => (fun h => h y2) h.1))) (fun y2 => (fun h => h.elim (fun h => (fun h => h y1) h.2) (fun h => (fun h => h y2) h.2))))))) J142)
                              refine zv_br ht131 rfl rfl rfl (fun b136 => ?_) (fun b136 => ?_)
                              · exact zEv.wk (L := [.retAddr 0, .retAddr 0, .retAddr 0, .retAddr 0]) (L' := [.int ((0 : Int32) ||| tx), .int ty, .int 4, .int 8]) (And.intro (Or.inr rfl) (And.intro (Or.inr rfl) (And.intro (Or.inr rfl) (And.intro (Or.inr rfl) trivial)))) (J138 (Or.inl b136))
                              · refine zv_c1 ht131 rfl rfl (zv_c1 ht131 rfl rfl ?_)
                                refine zv_c1 (st' := [.int (ty &&& (4 : Int32))]) (S' := sI (sI (sI (sI (sI (sI (sI (sI (sI (sI (sI (sI S 145 n (q + 1)) 147 n (zbo ((bt 0 a) ∧ (bt 0 b) ∧ (bt 0 c)))) 148 n (zbo (((bt 0 a) ∧ (bt 1 b) ∧ (bt 1 c)) ∨ ((bt 1 a) ∧ (bt 0 b) ∧ (bt 0 c))))) 149 n 0) 150 n (zbo (bt 3 c))) 151 n (zbo ((bt 4 b) ∧ (bt 4 c)))) 152 n (zbo ((bt 5 c) ∧ ((bt 5 a) ∨ (bt 5 b))))) 153 n (zbo ((bt 6 c) ∧ ((bt 5 a) ∨ (bt 6 b))))) 154 n (zbo ((bt 7 c) ∧ ((bt 5 a) ∨ (bt 6 b))))) 155 n (zbo ((bt 8 a) ∧ (bt 8 b) ∧ (bt 8 c) ∧ (bt 7 a) ∧ ((bt 5 a) ∨ (bt 5 b) ∨ (bt 5 c))))) 156 n (zbo (bt 9 a))) 146 n ((0 : Int32) ||| tx)) ht131 rfl rfl ?_
                                refine zv_br ht131 rfl rfl rfl (fun b137 => ?_) (fun b137 => ?_)
                                · exact zEv.wk (L := [.retAddr 0, .retAddr 0, .retAddr 0, .retAddr 0]) (L' := [.int ((0 : Int32) ||| tx), .int ty, .int 4, .int 8]) (And.intro (Or.inr rfl) (And.intro (Or.inr rfl) (And.intro (Or.inr rfl) (And.intro (Or.inr rfl) trivial)))) (J138 (Or.inr b137))
                                · exact zEv.wk (L := [.retAddr 0, .retAddr 0, .retAddr 0, .retAddr 0]) (L' := [.int ((0 : Int32) ||| tx), .int ty, .int 4, .int 8]) (And.intro (Or.inr rfl) (And.intro (Or.inr rfl) (And.intro (Or.inr rfl) (And.intro (Or.inr rfl) trivial)))) (J140 (Or.inr ⟨b136, b137⟩))
                            refine zv_br ht131 rfl rfl rfl (fun b132 => ?_) (fun b132 => ?_)
                            · exact (J134 (Or.inl b132))
                            · refine zv_c1 ht131 rfl rfl (zv_c1 ht131 rfl rfl ?_)
                              refine zv_c1 (st' := [.int (ty &&& (8 : Int32))]) (S' := sI (sI (sI (sI (sI (sI (sI (sI (sI (sI (sI (sI S 145 n (q + 1)) 147 n (zbo ((bt 0 a) ∧ (bt 0 b) ∧ (bt 0 c)))) 148 n (zbo (((bt 0 a) ∧ (bt 1 b) ∧ (bt 1 c)) ∨ ((bt 1 a) ∧ (bt 0 b) ∧ (bt 0 c))))) 149 n 0) 150 n (zbo (bt 3 c))) 151 n (zbo ((bt 4 b) ∧ (bt 4 c)))) 152 n (zbo ((bt 5 c) ∧ ((bt 5 a) ∨ (bt 5 b))))) 153 n (zbo ((bt 6 c) ∧ ((bt 5 a) ∨ (bt 6 b))))) 154 n (zbo ((bt 7 c) ∧ ((bt 5 a) ∨ (bt 6 b))))) 155 n (zbo ((bt 8 a) ∧ (bt 8 b) ∧ (bt 8 c) ∧ (bt 7 a) ∧ ((bt 5 a) ∨ (bt 5 b) ∨ (bt 5 c))))) 156 n (zbo (bt 9 a))) 146 n ((0 : Int32) ||| tx)) ht131 rfl rfl ?_
                              refine zv_br ht131 rfl rfl rfl (fun b133 => ?_) (fun b133 => ?_)
                              · exact zEv.wk (L := [.retAddr 0, .retAddr 0, .retAddr 0, .retAddr 0]) (L' := [.int ((0 : Int32) ||| tx), .int ty, .int 4, .int 8]) (And.intro (Or.inr rfl) (And.intro (Or.inr rfl) (And.intro (Or.inr rfl) (And.intro (Or.inr rfl) trivial)))) (J140 (Or.inl ⟨b132, b133⟩))
                              · replace b133 : (ty &&& (8 : Int32)) = 0 := Classical.not_not.mp b133
                                exact (J134 (Or.inr b133))
                          refine zv_cl ht110 rfl rfl rfl rfl (by omega) (Nat.le_of_ble_eq_true rfl) (C130 _ ?_)
                          show zEv (d - 1) 286 42 [.ref n, .ref y, .int 1] [.int (zbo (((¬ ((((0 : Int32) ||| tx) &&& (4 : Int32)) = 0)) ∧ (¬ ((ty &&& (8 : Int32)) = 0))) ∨ ((¬ ((((0 : Int32) ||| tx) &&& (8 : Int32)) = 0)) ∧ (¬ ((ty &&& (4 : Int32)) = 0))))), .ref n] (sI (sI (sI (sI (sI (sI (sI (sI (sI (sI (sI (sI S 145 n (q + 1)) 147 n (zbo ((bt 0 a) ∧ (bt 0 b) ∧ (bt 0 c)))) 148 n (zbo (((bt 0 a) ∧ (bt 1 b) ∧ (bt 1 c)) ∨ ((bt 1 a) ∧ (bt 0 b) ∧ (bt 0 c))))) 149 n 0) 150 n (zbo (bt 3 c))) 151 n (zbo ((bt 4 b) ∧ (bt 4 c)))) 152 n (zbo ((bt 5 c) ∧ ((bt 5 a) ∨ (bt 5 b))))) 153 n (zbo ((bt 6 c) ∧ ((bt 5 a) ∨ (bt 6 b))))) 154 n (zbo ((bt 7 c) ∧ ((bt 5 a) ∨ (bt 6 b))))) 155 n (zbo ((bt 8 a) ∧ (bt 8 b) ∧ (bt 8 c) ∧ (bt 7 a) ∧ ((bt 5 a) ∨ (bt 5 b) ∨ (bt 5 c))))) 156 n (zbo (bt 9 a))) 146 n ((0 : Int32) ||| tx)) pst108
                          refine zv_br ht110 rfl rfl rfl (fun b145 => ?_) (fun b145 => ?_)
                          · replace b145 : ¬ (((¬ ((((0 : Int32) ||| tx) &&& (4 : Int32)) = 0)) ∧ (¬ ((ty &&& (8 : Int32)) = 0))) ∨ ((¬ ((((0 : Int32) ||| tx) &&& (8 : Int32)) = 0)) ∧ (¬ ((ty &&& (4 : Int32)) = 0)))) := (zbo_eq0 : (zbo (((¬ ((((0 : Int32) ||| tx) &&& (4 : Int32)) = 0)) ∧ (¬ ((ty &&& (8 : Int32)) = 0))) ∨ ((¬ ((((0 : Int32) ||| tx) &&& (8 : Int32)) = 0)) ∧ (¬ ((ty &&& (4 : Int32)) = 0))))) = 0 ↔ ¬ (((¬ ((((0 : Int32) ||| tx) &&& (4 : Int32)) = 0)) ∧ (¬ ((ty &&& (8 : Int32)) = 0))) ∨ ((¬ ((((0 : Int32) ||| tx) &&& (8 : Int32)) = 0)) ∧ (¬ ((ty &&& (4 : Int32)) = 0))))).mp b145
                            refine zv_c1 ht110 rfl rfl ?_
                            exact zEv.wk (L := [.ref n, .ref y, .retAddr 0]) (L' := [.ref n, .ref y, .int 1]) (And.intro (Or.inl rfl) (And.intro (Or.inl rfl) (And.intro (Or.inr rfl) trivial))) (zv_sub (zz := zbo ((bt 9 a) ∨ (((¬ ((((0 : Int32) ||| tx) &&& (1 : Int32)) = 0)) ∧ (¬ ((ty &&& (2 : Int32)) = 0))) ∨ ((¬ ((((0 : Int32) ||| tx) &&& (2 : Int32)) = 0)) ∧ (¬ ((ty &&& (1 : Int32)) = 0)))) ∨ ((¬ ((((0 : Int32) ||| tx) &&& (4 : Int32)) = 0)) ∧ (¬ ((ty &&& (8 : Int32)) = 0))) ∨ ((¬ ((((0 : Int32) ||| tx) &&& (8 : Int32)) = 0)) ∧ (¬ ((ty &&& (4 : Int32)) = 0))))) (zy := 0) (p := fun zz => zEv (d - 1) 286 50 [.ref n, .ref y, .retAddr 0] [.int zz, .ref n] (sI (sI (sI (sI (sI (sI (sI (sI (sI (sI (sI (sI S 145 n (q + 1)) 147 n (zbo ((bt 0 a) ∧ (bt 0 b) ∧ (bt 0 c)))) 148 n (zbo (((bt 0 a) ∧ (bt 1 b) ∧ (bt 1 c)) ∨ ((bt 1 a) ∧ (bt 0 b) ∧ (bt 0 c))))) 149 n 0) 150 n (zbo (bt 3 c))) 151 n (zbo ((bt 4 b) ∧ (bt 4 c)))) 152 n (zbo ((bt 5 c) ∧ ((bt 5 a) ∨ (bt 5 b))))) 153 n (zbo ((bt 6 c) ∧ ((bt 5 a) ∨ (bt 6 b))))) 154 n (zbo ((bt 7 c) ∧ ((bt 5 a) ∨ (bt 6 b))))) 155 n (zbo ((bt 8 a) ∧ (bt 8 b) ∧ (bt 8 c) ∧ (bt 7 a) ∧ ((bt 5 a) ∨ (bt 5 b) ∨ (bt 5 c))))) 156 n (zbo (bt 9 a))) 146 n ((0 : Int32) ||| tx)) pst108) (zbo_neg (fun h => h.elim b111 (fun h => h.elim b128 b145))) J148)
                          · replace b145 : ((¬ ((((0 : Int32) ||| tx) &&& (4 : Int32)) = 0)) ∧ (¬ ((ty &&& (8 : Int32)) = 0))) ∨ ((¬ ((((0 : Int32) ||| tx) &&& (8 : Int32)) = 0)) ∧ (¬ ((ty &&& (4 : Int32)) = 0))) := Classical.byContradiction (fun h => b145 ((zbo_eq0 : (zbo (((¬ ((((0 : Int32) ||| tx) &&& (4 : Int32)) = 0)) ∧ (¬ ((ty &&& (8 : Int32)) = 0))) ∨ ((¬ ((((0 : Int32) ||| tx) &&& (8 : Int32)) = 0)) ∧ (¬ ((ty &&& (4 : Int32)) = 0))))) = 0 ↔ ¬ (((¬ ((((0 : Int32) ||| tx) &&& (4 : Int32)) = 0)) ∧ (¬ ((ty &&& (8 : Int32)) = 0))) ∨ ((¬ ((((0 : Int32) ||| tx) &&& (8 : Int32)) = 0)) ∧ (¬ ((ty &&& (4 : Int32)) = 0))))).mpr h))
                            exact zEv.wk (L := [.ref n, .ref y, .retAddr 0]) (L' := [.ref n, .ref y, .int 1]) (And.intro (Or.inl rfl) (And.intro (Or.inl rfl) (And.intro (Or.inr rfl) trivial))) (J146 (Or.inr (Or.inr b145)))
                    refine zv_cl ht rfl rfl rfl (zv_tgv (htn) rfl) (by omega) (Nat.le_of_ble_eq_true rfl) (C109 _ ?_)
                    show zEv d 360 389 [.ref n] [] (sI (sI (sI (sI (sI (sI (sI (sI (sI (sI (sI (sI (sI (sI (sI S 145 n (q + 1)) 147 n (zbo ((bt 0 a) ∧ (bt 0 b) ∧ (bt 0 c)))) 148 n (zbo (((bt 0 a) ∧ (bt 1 b) ∧ (bt 1 c)) ∨ ((bt 1 a) ∧ (bt 0 b) ∧ (bt 0 c))))) 149 n 0) 150 n (zbo (bt 3 c))) 151 n (zbo ((bt 4 b) ∧ (bt 4 c)))) 152 n (zbo ((bt 5 c) ∧ ((bt 5 a) ∨ (bt 5 b))))) 153 n (zbo ((bt 6 c) ∧ ((bt 5 a) ∨ (bt 6 b))))) 154 n (zbo ((bt 7 c) ∧ ((bt 5 a) ∨ (bt 6 b))))) 155 n (zbo ((bt 8 a) ∧ (bt 8 b) ∧ (bt 8 c) ∧ (bt 7 a) ∧ ((bt 5 a) ∨ (bt 5 b) ∨ (bt 5 c))))) 156 n (zbo (bt 9 a))) 146 n ((0 : Int32) ||| tx)) 156 n (zbo ((bt 9 a) ∨ (((¬ ((((0 : Int32) ||| tx) &&& (1 : Int32)) = 0)) ∧ (¬ ((ty &&& (2 : Int32)) = 0))) ∨ ((¬ ((((0 : Int32) ||| tx) &&& (2 : Int32)) = 0)) ∧ (¬ ((ty &&& (1 : Int32)) = 0)))) ∨ ((¬ ((((0 : Int32) ||| tx) &&& (4 : Int32)) = 0)) ∧ (¬ ((ty &&& (8 : Int32)) = 0))) ∨ ((¬ ((((0 : Int32) ||| tx) &&& (8 : Int32)) = 0)) ∧ (¬ ((ty &&& (4 : Int32)) = 0)))))) 156 n (zbo (((bt 9 a) ∨ (((¬ ((((0 : Int32) ||| tx) &&& (1 : Int32)) = 0)) ∧ (¬ ((ty &&& (2 : Int32)) = 0))) ∨ ((¬ ((((0 : Int32) ||| tx) &&& (2 : Int32)) = 0)) ∧ (¬ ((ty &&& (1 : Int32)) = 0)))) ∨ ((¬ ((((0 : Int32) ||| tx) &&& (4 : Int32)) = 0)) ∧ (¬ ((ty &&& (8 : Int32)) = 0))) ∨ ((¬ ((((0 : Int32) ||| tx) &&& (8 : Int32)) = 0)) ∧ (¬ ((ty &&& (4 : Int32)) = 0)))) ∨ (bt 9 b)))) 146 n (((0 : Int32) ||| tx) ||| ty)) post
                    refine zv_c1 ht rfl rfl (zv_c1 ht rfl rfl ?_)
                    refine zv_g3 (q := w) ht rfl hF rfl rfl (zhas_of (htn) rfl) hpw ?_
                    refine zv_c1 ht rfl rfl ?_
                    have C158 : ∀ (pst157 : Outcome × zS → Prop), (pst157 (.returned none, sI (sI (sI (sI (sI (sI (sI (sI (sI (sI (sI (sI (sI (sI (sI (sI (sI S 145 n (q + 1)) 147 n (zbo ((bt 0 a) ∧ (bt 0 b) ∧ (bt 0 c)))) 148 n (zbo (((bt 0 a) ∧ (bt 1 b) ∧ (bt 1 c)) ∨ ((bt 1 a) ∧ (bt 0 b) ∧ (bt 0 c))))) 149 n 0) 150 n (zbo (bt 3 c))) 151 n (zbo ((bt 4 b) ∧ (bt 4 c)))) 152 n (zbo ((bt 5 c) ∧ ((bt 5 a) ∨ (bt 5 b))))) 153 n (zbo ((bt 6 c) ∧ ((bt 5 a) ∨ (bt 6 b))))) 154 n (zbo ((bt 7 c) ∧ ((bt 5 a) ∨ (bt 6 b))))) 155 n (zbo ((bt 8 a) ∧ (bt 8 b) ∧ (bt 8 c) ∧ (bt 7 a) ∧ ((bt 5 a) ∨ (bt 5 b) ∨ (bt 5 c))))) 156 n (zbo (bt 9 a))) 146 n ((0 : Int32) ||| tx)) 156 n (zbo ((bt 9 a) ∨ (((¬ ((((0 : Int32) ||| tx) &&& (1 : Int32)) = 0)) ∧ (¬ ((ty &&& (2 : Int32)) = 0))) ∨ ((¬ ((((0 : Int32) ||| tx) &&& (2 : Int32)) = 0)) ∧ (¬ ((ty &&& (1 : Int32)) = 0)))) ∨ ((¬ ((((0 : Int32) ||| tx) &&& (4 : Int32)) = 0)) ∧ (¬ ((ty &&& (8 : Int32)) = 0))) ∨ ((¬ ((((0 : Int32) ||| tx) &&& (8 : Int32)) = 0)) ∧ (¬ ((ty &&& (4 : Int32)) = 0)))))) 156 n (zbo (((bt 9 a) ∨ (((¬ ((((0 : Int32) ||| tx) &&& (1 : Int32)) = 0)) ∧ (¬ ((ty &&& (2 : Int32)) = 0))) ∨ ((¬ ((((0 : Int32) ||| tx) &&& (2 : Int32)) = 0)) ∧ (¬ ((ty &&& (1 : Int32)) = 0)))) ∨ ((¬ ((((0 : Int32) ||| tx) &&& (4 : Int32)) = 0)) ∧ (¬ ((ty &&& (8 : Int32)) = 0))) ∨ ((¬ ((((0 : Int32) ||| tx) &&& (8 : Int32)) = 0)) ∧ (¬ ((ty &&& (4 : Int32)) = 0)))) ∨ (bt 9 b)))) 146 n (((0 : Int32) ||| tx) ||| ty)) 156 n (zbo ((((bt 9 a) ∨ (((¬ ((((0 : Int32) ||| tx) &&& (1 : Int32)) = 0)) ∧ (¬ ((ty &&& (2 : Int32)) = 0))) ∨ ((¬ ((((0 : Int32) ||| tx) &&& (2 : Int32)) = 0)) ∧ (¬ ((ty &&& (1 : Int32)) = 0)))) ∨ ((¬ ((((0 : Int32) ||| tx) &&& (4 : Int32)) = 0)) ∧ (¬ ((ty &&& (8 : Int32)) = 0))) ∨ ((¬ ((((0 : Int32) ||| tx) &&& (8 : Int32)) = 0)) ∧ (¬ ((ty &&& (4 : Int32)) = 0)))) ∨ (bt 9 b)) ∨ (bt 9 c)))) 146 n ((((0 : Int32) ||| tx) ||| ty) ||| tw))) → zCall (d - 1) 286 [.ref n, .ref w, .int 0] (sI (sI (sI (sI (sI (sI (sI (sI (sI (sI (sI (sI (sI (sI (sI S 145 n (q + 1)) 147 n (zbo ((bt 0 a) ∧ (bt 0 b) ∧ (bt 0 c)))) 148 n (zbo (((bt 0 a) ∧ (bt 1 b) ∧ (bt 1 c)) ∨ ((bt 1 a) ∧ (bt 0 b) ∧ (bt 0 c))))) 149 n 0) 150 n (zbo (bt 3 c))) 151 n (zbo ((bt 4 b) ∧ (bt 4 c)))) 152 n (zbo ((bt 5 c) ∧ ((bt 5 a) ∨ (bt 5 b))))) 153 n (zbo ((bt 6 c) ∧ ((bt 5 a) ∨ (bt 6 b))))) 154 n (zbo ((bt 7 c) ∧ ((bt 5 a) ∨ (bt 6 b))))) 155 n (zbo ((bt 8 a) ∧ (bt 8 b) ∧ (bt 8 c) ∧ (bt 7 a) ∧ ((bt 5 a) ∨ (bt 5 b) ∨ (bt 5 c))))) 156 n (zbo (bt 9 a))) 146 n ((0 : Int32) ||| tx)) 156 n (zbo ((bt 9 a) ∨ (((¬ ((((0 : Int32) ||| tx) &&& (1 : Int32)) = 0)) ∧ (¬ ((ty &&& (2 : Int32)) = 0))) ∨ ((¬ ((((0 : Int32) ||| tx) &&& (2 : Int32)) = 0)) ∧ (¬ ((ty &&& (1 : Int32)) = 0)))) ∨ ((¬ ((((0 : Int32) ||| tx) &&& (4 : Int32)) = 0)) ∧ (¬ ((ty &&& (8 : Int32)) = 0))) ∨ ((¬ ((((0 : Int32) ||| tx) &&& (8 : Int32)) = 0)) ∧ (¬ ((ty &&& (4 : Int32)) = 0)))))) 156 n (zbo (((bt 9 a) ∨ (((¬ ((((0 : Int32) ||| tx) &&& (1 : Int32)) = 0)) ∧ (¬ ((ty &&& (2 : Int32)) = 0))) ∨ ((¬ ((((0 : Int32) ||| tx) &&& (2 : Int32)) = 0)) ∧ (¬ ((ty &&& (1 : Int32)) = 0)))) ∨ ((¬ ((((0 : Int32) ||| tx) &&& (4 : Int32)) = 0)) ∧ (¬ ((ty &&& (8 : Int32)) = 0))) ∨ ((¬ ((((0 : Int32) ||| tx) &&& (8 : Int32)) = 0)) ∧ (¬ ((ty &&& (4 : Int32)) = 0)))) ∨ (bt 9 b)))) 146 n (((0 : Int32) ||| tx) ||| ty)) pst157 := by
                      intro pst157 k166
                      have ht159 : ztab 286 = ztb286 := rfl
                      show zEv (d - 1) 286 0 [.ref n, .ref w, .int 0] [] (sI (sI (sI (sI (sI (sI (sI (sI (sI (sI (sI (sI (sI (sI (sI S 145 n (q + 1)) 147 n (zbo ((bt 0 a) ∧ (bt 0 b) ∧ (bt 0 c)))) 148 n (zbo (((bt 0 a) ∧ (bt 1 b) ∧ (bt 1 c)) ∨ ((bt 1 a) ∧ (bt 0 b) ∧ (bt 0 c))))) 149 n 0) 150 n (zbo (bt 3 c))) 151 n (zbo ((bt 4 b) ∧ (bt 4 c)))) 152 n (zbo ((bt 5 c) ∧ ((bt 5 a) ∨ (bt 5 b))))) 153 n (zbo ((bt 6 c) ∧ ((bt 5 a) ∨ (bt 6 b))))) 154 n (zbo ((bt 7 c) ∧ ((bt 5 a) ∨ (bt 6 b))))) 155 n (zbo ((bt 8 a) ∧ (bt 8 b) ∧ (bt 8 c) ∧ (bt 7 a) ∧ ((bt 5 a) ∨ (bt 5 b) ∨ (bt 5 c))))) 156 n (zbo (bt 9 a))) 146 n ((0 : Int32) ||| tx)) 156 n (zbo ((bt 9 a) ∨ (((¬ ((((0 : Int32) ||| tx) &&& (1 : Int32)) = 0)) ∧ (¬ ((ty &&& (2 : Int32)) = 0))) ∨ ((¬ ((((0 : Int32) ||| tx) &&& (2 : Int32)) = 0)) ∧ (¬ ((ty &&& (1 : Int32)) = 0)))) ∨ ((¬ ((((0 : Int32) ||| tx) &&& (4 : Int32)) = 0)) ∧ (¬ ((ty &&& (8 : Int32)) = 0))) ∨ ((¬ ((((0 : Int32) ||| tx) &&& (8 : Int32)) = 0)) ∧ (¬ ((ty &&& (4 : Int32)) = 0)))))) 156 n (zbo (((bt 9 a) ∨ (((¬ ((((0 : Int32) ||| tx) &&& (1 : Int32)) = 0)) ∧ (¬ ((ty &&& (2 : Int32)) = 0))) ∨ ((¬ ((((0 : Int32) ||| tx) &&& (2 : Int32)) = 0)) ∧ (¬ ((ty &&& (1 : Int32)) = 0)))) ∨ ((¬ ((((0 : Int32) ||| tx) &&& (4 : Int32)) = 0)) ∧ (¬ ((ty &&& (8 : Int32)) = 0))) ∨ ((¬ ((((0 : Int32) ||| tx) &&& (8 : Int32)) = 0)) ∧ (¬ ((ty &&& (4 : Int32)) = 0)))) ∨ (bt 9 b)))) 146 n (((0 : Int32) ||| tx) ||| ty)) pst157
                      refine zv_c1 ht159 rfl rfl ?_
                      refine zv_br ht159 rfl rfl rfl (fun _ => ?_) (fun h => absurd (by decide) h)
                      refine zv_c1 ht159 rfl rfl (zv_c1 ht159 rfl rfl ?_)
                      refine zv_ei (x := zbo (((bt 9 a) ∨ (((¬ ((((0 : Int32) ||| tx) &&& (1 : Int32)) = 0)) ∧ (¬ ((ty &&& (2 : Int32)) = 0))) ∨ ((¬ ((((0 : Int32) ||| tx) &&& (2 : Int32)) = 0)) ∧ (¬ ((ty &&& (1 : Int32)) = 0)))) ∨ ((¬ ((((0 : Int32) ||| tx) &&& (4 : Int32)) = 0)) ∧ (¬ ((ty &&& (8 : Int32)) = 0))) ∨ ((¬ ((((0 : Int32) ||| tx) &&& (8 : Int32)) = 0)) ∧ (¬ ((ty &&& (4 : Int32)) = 0)))) ∨ (bt 9 b))) ht159 rfl rfl (zhas_of (htn) rfl) gI_sI_at ?_
                      have J164 : zEv (d - 1) 286 73 [.ref n, .ref w, .retAddr 0] [.int (zbo ((((bt 9 a) ∨ (((¬ ((((0 : Int32) ||| tx) &&& (1 : Int32)) = 0)) ∧ (¬ ((ty &&& (2 : Int32)) = 0))) ∨ ((¬ ((((0 : Int32) ||| tx) &&& (2 : Int32)) = 0)) ∧ (¬ ((ty &&& (1 : Int32)) = 0)))) ∨ ((¬ ((((0 : Int32) ||| tx) &&& (4 : Int32)) = 0)) ∧ (¬ ((ty &&& (8 : Int32)) = 0))) ∨ ((¬ ((((0 : Int32) ||| tx) &&& (8 : Int32)) = 0)) ∧ (¬ ((ty &&& (4 : Int32)) = 0)))) ∨ (bt 9 b)) ∨ (bt 9 c))), .ref n] (sI (sI (sI (sI (sI (sI (sI (sI (sI (sI (sI (sI (sI (sI (sI S 145 n (q + 1)) 147 n (zbo ((bt 0 a) ∧ (bt 0 b) ∧ (bt 0 c)))) 148 n (zbo (((bt 0 a) ∧ (bt 1 b) ∧ (bt 1 c)) ∨ ((bt 1 a) ∧ (bt 0 b) ∧ (bt 0 c))))) 149 n 0) 150 n (zbo (bt 3 c))) 151 n (zbo ((bt 4 b) ∧ (bt 4 c)))) 152 n (zbo ((bt 5 c) ∧ ((bt 5 a) ∨ (bt 5 b))))) 153 n (zbo ((bt 6 c) ∧ ((bt 5 a) ∨ (bt 6 b))))) 154 n (zbo ((bt 7 c) ∧ ((bt 5 a) ∨ (bt 6 b))))) 155 n (zbo ((bt 8 a) ∧ (bt 8 b) ∧ (bt 8 c) ∧ (bt 7 a) ∧ ((bt 5 a) ∨ (bt 5 b) ∨ (bt 5 c))))) 156 n (zbo (bt 9 a))) 146 n ((0 : Int32) ||| tx)) 156 n (zbo ((bt 9 a) ∨ (((¬ ((((0 : Int32) ||| tx) &&& (1 : Int32)) = 0)) ∧ (¬ ((ty &&& (2 : Int32)) = 0))) ∨ ((¬ ((((0 : Int32) ||| tx) &&& (2 : Int32)) = 0)) ∧ (¬ ((ty &&& (1 : Int32)) = 0)))) ∨ ((¬ ((((0 : Int32) ||| tx) &&& (4 : Int32)) = 0)) ∧ (¬ ((ty &&& (8 : Int32)) = 0))) ∨ ((¬ ((((0 : Int32) ||| tx) &&& (8 : Int32)) = 0)) ∧ (¬ ((ty &&& (4 : Int32)) = 0)))))) 156 n (zbo (((bt 9 a) ∨ (((¬ ((((0 : Int32) ||| tx) &&& (1 : Int32)) = 0)) ∧ (¬ ((ty &&& (2 : Int32)) = 0))) ∨ ((¬ ((((0 : Int32) ||| tx) &&& (2 : Int32)) = 0)) ∧ (¬ ((ty &&& (1 : Int32)) = 0)))) ∨ ((¬ ((((0 : Int32) ||| tx) &&& (4 : Int32)) = 0)) ∧ (¬ ((ty &&& (8 : Int32)) = 0))) ∨ ((¬ ((((0 : Int32) ||| tx) &&& (8 : Int32)) = 0)) ∧ (¬ ((ty &&& (4 : Int32)) = 0)))) ∨ (bt 9 b)))) 146 n (((0 : Int32) ||| tx) ||| ty)) pst157 := by
                        refine zv_ci (S' := sI (sI (sI (sI (sI (sI (sI (sI (sI (sI (sI (sI (sI (sI (sI (sI S 145 n (q + 1)) 147 n (zbo ((bt 0 a) ∧ (bt 0 b) ∧ (bt 0 c)))) 148 n (zbo (((bt 0 a) ∧ (bt 1 b) ∧ (bt 1 c)) ∨ ((bt 1 a) ∧ (bt 0 b) ∧ (bt 0 c))))) 149 n 0) 150 n (zbo (bt 3 c))) 151 n (zbo ((bt 4 b) ∧ (bt 4 c)))) 152 n (zbo ((bt 5 c) ∧ ((bt 5 a) ∨ (bt 5 b))))) 153 n (zbo ((bt 6 c) ∧ ((bt 5 a) ∨ (bt 6 b))))) 154 n (zbo ((bt 7 c) ∧ ((bt 5 a) ∨ (bt 6 b))))) 155 n (zbo ((bt 8 a) ∧ (bt 8 b) ∧ (bt 8 c) ∧ (bt 7 a) ∧ ((bt 5 a) ∨ (bt 5 b) ∨ (bt 5 c))))) 156 n (zbo (bt 9 a))) 146 n ((0 : Int32) ||| tx)) 156 n (zbo ((bt 9 a) ∨ (((¬ ((((0 : Int32) ||| tx) &&& (1 : Int32)) = 0)) ∧ (¬ ((ty &&& (2 : Int32)) = 0))) ∨ ((¬ ((((0 : Int32) ||| tx) &&& (2 : Int32)) = 0)) ∧ (¬ ((ty &&& (1 : Int32)) = 0)))) ∨ ((¬ ((((0 : Int32) ||| tx) &&& (4 : Int32)) = 0)) ∧ (¬ ((ty &&& (8 : Int32)) = 0))) ∨ ((¬ ((((0 : Int32) ||| tx) &&& (8 : Int32)) = 0)) ∧ (¬ ((ty &&& (4 : Int32)) = 0)))))) 156 n (zbo (((bt 9 a) ∨ (((¬ ((((0 : Int32) ||| tx) &&& (1 : Int32)) = 0)) ∧ (¬ ((ty &&& (2 : Int32)) = 0))) ∨ ((¬ ((((0 : Int32) ||| tx) &&& (2 : Int32)) = 0)) ∧ (¬ ((ty &&& (1 : Int32)) = 0)))) ∨ ((¬ ((((0 : Int32) ||| tx) &&& (4 : Int32)) = 0)) ∧ (¬ ((ty &&& (8 : Int32)) = 0))) ∨ ((¬ ((((0 : Int32) ||| tx) &&& (8 : Int32)) = 0)) ∧ (¬ ((ty &&& (4 : Int32)) = 0)))) ∨ (bt 9 b)))) 146 n (((0 : Int32) ||| tx) ||| ty)) 156 n (zbo ((((bt 9 a) ∨ (((¬ ((((0 : Int32) ||| tx) &&& (1 : Int32)) = 0)) ∧ (¬ ((ty &&& (2 : Int32)) = 0))) ∨ ((¬ ((((0 : Int32) ||| tx) &&& (2 : Int32)) = 0)) ∧ (¬ ((ty &&& (1 : Int32)) = 0)))) ∨ ((¬ ((((0 : Int32) ||| tx) &&& (4 : Int32)) = 0)) ∧ (¬ ((ty &&& (8 : Int32)) = 0))) ∨ ((¬ ((((0 : Int32) ||| tx) &&& (8 : Int32)) = 0)) ∧ (¬ ((ty &&& (4 : Int32)) = 0)))) ∨ (bt 9 b)) ∨ (bt 9 c)))) ht159 rfl rfl ⟨⟨(zhas_of (htn) rfl), (show n < gN S from by omega)⟩, zbo_rng⟩ ?_
                        refine zv_c1 ht159 rfl rfl (zv_c1 ht159 rfl rfl ?_)
                        refine zv_ei (x := ((0 : Int32) ||| tx) ||| ty) ht159 rfl rfl (zhas_of (htn) rfl) gI_sI_at ?_
                        refine zv_c1 ht159 rfl rfl ?_
                        refine zv_ei (x := tw) ht159 rfl rfl (zhas_nc hcw (by decide)) (Eq.trans (gI_sI_ne (by omega)) (Eq.trans (gI_sI_ne (by omega)) htw)) ?_
                        refine zv_c1 (st' := [.int ((((0 : Int32) ||| tx) ||| ty) ||| tw), .ref n]) (S' := sI (sI (sI (sI (sI (sI (sI (sI (sI (sI (sI (sI (sI (sI (sI (sI S 145 n (q + 1)) 147 n (zbo ((bt 0 a) ∧ (bt 0 b) ∧ (bt 0 c)))) 148 n (zbo (((bt 0 a) ∧ (bt 1 b) ∧ (bt 1 c)) ∨ ((bt 1 a) ∧ (bt 0 b) ∧ (bt 0 c))))) 149 n 0) 150 n (zbo (bt 3 c))) 151 n (zbo ((bt 4 b) ∧ (bt 4 c)))) 152 n (zbo ((bt 5 c) ∧ ((bt 5 a) ∨ (bt 5 b))))) 153 n (zbo ((bt 6 c) ∧ ((bt 5 a) ∨ (bt 6 b))))) 154 n (zbo ((bt 7 c) ∧ ((bt 5 a) ∨ (bt 6 b))))) 155 n (zbo ((bt 8 a) ∧ (bt 8 b) ∧ (bt 8 c) ∧ (bt 7 a) ∧ ((bt 5 a) ∨ (bt 5 b) ∨ (bt 5 c))))) 156 n (zbo (bt 9 a))) 146 n ((0 : Int32) ||| tx)) 156 n (zbo ((bt 9 a) ∨ (((¬ ((((0 : Int32) ||| tx) &&& (1 : Int32)) = 0)) ∧ (¬ ((ty &&& (2 : Int32)) = 0))) ∨ ((¬ ((((0 : Int32) ||| tx) &&& (2 : Int32)) = 0)) ∧ (¬ ((ty &&& (1 : Int32)) = 0)))) ∨ ((¬ ((((0 : Int32) ||| tx) &&& (4 : Int32)) = 0)) ∧ (¬ ((ty &&& (8 : Int32)) = 0))) ∨ ((¬ ((((0 : Int32) ||| tx) &&& (8 : Int32)) = 0)) ∧ (¬ ((ty &&& (4 : Int32)) = 0)))))) 156 n (zbo (((bt 9 a) ∨ (((¬ ((((0 : Int32) ||| tx) &&& (1 : Int32)) = 0)) ∧ (¬ ((ty &&& (2 : Int32)) = 0))) ∨ ((¬ ((((0 : Int32) ||| tx) &&& (2 : Int32)) = 0)) ∧ (¬ ((ty &&& (1 : Int32)) = 0)))) ∨ ((¬ ((((0 : Int32) ||| tx) &&& (4 : Int32)) = 0)) ∧ (¬ ((ty &&& (8 : Int32)) = 0))) ∨ ((¬ ((((0 : Int32) ||| tx) &&& (8 : Int32)) = 0)) ∧ (¬ ((ty &&& (4 : Int32)) = 0)))) ∨ (bt 9 b)))) 146 n (((0 : Int32) ||| tx) ||| ty)) 156 n (zbo ((((bt 9 a) ∨ (((¬ ((((0 : Int32) ||| tx) &&& (1 : Int32)) = 0)) ∧ (¬ ((ty &&& (2 : Int32)) = 0))) ∨ ((¬ ((((0 : Int32) ||| tx) &&& (2 : Int32)) = 0)) ∧ (¬ ((ty &&& (1 : Int32)) = 0)))) ∨ ((¬ ((((0 : Int32) ||| tx) &&& (4 : Int32)) = 0)) ∧ (¬ ((ty &&& (8 : Int32)) = 0))) ∨ ((¬ ((((0 : Int32) ||| tx) &&& (8 : Int32)) = 0)) ∧ (¬ ((ty &&& (4 : Int32)) = 0)))) ∨ (bt 9 b)) ∨ (bt 9 c)))) ht159 rfl rfl ?_
                        refine zv_ci (S' := sI (sI (sI (sI (sI (sI (sI (sI (sI (sI (sI (sI (sI (sI (sI (sI (sI S 145 n (q + 1)) 147 n (zbo ((bt 0 a) ∧ (bt 0 b) ∧ (bt 0 c)))) 148 n (zbo (((bt 0 a) ∧ (bt 1 b) ∧ (bt 1 c)) ∨ ((bt 1 a) ∧ (bt 0 b) ∧ (bt 0 c))))) 149 n 0) 150 n (zbo (bt 3 c))) 151 n (zbo ((bt 4 b) ∧ (bt 4 c)))) 152 n (zbo ((bt 5 c) ∧ ((bt 5 a) ∨ (bt 5 b))))) 153 n (zbo ((bt 6 c) ∧ ((bt 5 a) ∨ (bt 6 b))))) 154 n (zbo ((bt 7 c) ∧ ((bt 5 a) ∨ (bt 6 b))))) 155 n (zbo ((bt 8 a) ∧ (bt 8 b) ∧ (bt 8 c) ∧ (bt 7 a) ∧ ((bt 5 a) ∨ (bt 5 b) ∨ (bt 5 c))))) 156 n (zbo (bt 9 a))) 146 n ((0 : Int32) ||| tx)) 156 n (zbo ((bt 9 a) ∨ (((¬ ((((0 : Int32) ||| tx) &&& (1 : Int32)) = 0)) ∧ (¬ ((ty &&& (2 : Int32)) = 0))) ∨ ((¬ ((((0 : Int32) ||| tx) &&& (2 : Int32)) = 0)) ∧ (¬ ((ty &&& (1 : Int32)) = 0)))) ∨ ((¬ ((((0 : Int32) ||| tx) &&& (4 : Int32)) = 0)) ∧ (¬ ((ty &&& (8 : Int32)) = 0))) ∨ ((¬ ((((0 : Int32) ||| tx) &&& (8 : Int32)) = 0)) ∧ (¬ ((ty &&& (4 : Int32)) = 0)))))) 156 n (zbo (((bt 9 a) ∨ (((¬ ((((0 : Int32) ||| tx) &&& (1 : Int32)) = 0)) ∧ (¬ ((ty &&& (2 : Int32)) = 0))) ∨ ((¬ ((((0 : Int32) ||| tx) &&& (2 : Int32)) = 0)) ∧ (¬ ((ty &&& (1 : Int32)) = 0)))) ∨ ((¬ ((((0 : Int32) ||| tx) &&& (4 : Int32)) = 0)) ∧ (¬ ((ty &&& (8 : Int32)) = 0))) ∨ ((¬ ((((0 : Int32) ||| tx) &&& (8 : Int32)) = 0)) ∧ (¬ ((ty &&& (4 : Int32)) = 0)))) ∨ (bt 9 b)))) 146 n (((0 : Int32) ||| tx) ||| ty)) 156 n (zbo ((((bt 9 a) ∨ (((¬ ((((0 : Int32) ||| tx) &&& (1 : Int32)) = 0)) ∧ (¬ ((ty &&& (2 : Int32)) = 0))) ∨ ((¬ ((((0 : Int32) ||| tx) &&& (2 : Int32)) = 0)) ∧ (¬ ((ty &&& (1 : Int32)) = 0)))) ∨ ((¬ ((((0 : Int32) ||| tx) &&& (4 : Int32)) = 0)) ∧ (¬ ((ty &&& (8 : Int32)) = 0))) ∨ ((¬ ((((0 : Int32) ||| tx) &&& (8 : Int32)) = 0)) ∧ (¬ ((ty &&& (4 : Int32)) = 0)))) ∨ (bt 9 b)) ∨ (bt 9 c)))) 146 n ((((0 : Int32) ||| tx) ||| ty) ||| tw)) ht159 rfl rfl ⟨(zhas_of (htn) rfl), (show n < gN S from by omega)⟩ ?_
                        exact zv_rt ht159 rfl rfl rfl rfl k166
                      have J162 : ((((bt 9 a) ∨ (((¬ ((((0 : Int32) ||| tx) &&& (1 : Int32)) = 0)) ∧ (¬ ((ty &&& (2 : Int32)) = 0))) ∨ ((¬ ((((0 : Int32) ||| tx) &&& (2 : Int32)) = 0)) ∧ (¬ ((ty &&& (1 : Int32)) = 0)))) ∨ ((¬ ((((0 : Int32) ||| tx) &&& (4 : Int32)) = 0)) ∧ (¬ ((ty &&& (8 : Int32)) = 0))) ∨ ((¬ ((((0 : Int32) ||| tx) &&& (8 : Int32)) = 0)) ∧ (¬ ((ty &&& (4 : Int32)) = 0)))) ∨ (bt 9 b)) ∨ (bt 9 c)) → zEv (d - 1) 286 68 [.ref n, .ref w, .retAddr 0] [.ref n] (sI (sI (sI (sI (sI (sI (sI (sI (sI (sI (sI (sI (sI (sI (sI S 145 n (q + 1)) 147 n (zbo ((bt 0 a) ∧ (bt 0 b) ∧ (bt 0 c)))) 148 n (zbo (((bt 0 a) ∧ (bt 1 b) ∧ (bt 1 c)) ∨ ((bt 1 a) ∧ (bt 0 b) ∧ (bt 0 c))))) 149 n 0) 150 n (zbo (bt 3 c))) 151 n (zbo ((bt 4 b) ∧ (bt 4 c)))) 152 n (zbo ((bt 5 c) ∧ ((bt 5 a) ∨ (bt 5 b))))) 153 n (zbo ((bt 6 c) ∧ ((bt 5 a) ∨ (bt 6 b))))) 154 n (zbo ((bt 7 c) ∧ ((bt 5 a) ∨ (bt 6 b))))) 155 n (zbo ((bt 8 a) ∧ (bt 8 b) ∧ (bt 8 c) ∧ (bt 7 a) ∧ ((bt 5 a) ∨ (bt 5 b) ∨ (bt 5 c))))) 156 n (zbo (bt 9 a))) 146 n ((0 : Int32) ||| tx)) 156 n (zbo ((bt 9 a) ∨ (((¬ ((((0 : Int32) ||| tx) &&& (1 : Int32)) = 0)) ∧ (¬ ((ty &&& (2 : Int32)) = 0))) ∨ ((¬ ((((0 : Int32) ||| tx) &&& (2 : Int32)) = 0)) ∧ (¬ ((ty &&& (1 : Int32)) = 0)))) ∨ ((¬ ((((0 : Int32) ||| tx) &&& (4 : Int32)) = 0)) ∧ (¬ ((ty &&& (8 : Int32)) = 0))) ∨ ((¬ ((((0 : Int32) ||| tx) &&& (8 : Int32)) = 0)) ∧ (¬ ((ty &&& (4 : Int32)) = 0)))))) 156 n (zbo (((bt 9 a) ∨ (((¬ ((((0 : Int32) ||| tx) &&& (1 : Int32)) = 0)) ∧ (¬ ((ty &&& (2 : Int32)) = 0))) ∨ ((¬ ((((0 : Int32) ||| tx) &&& (2 : Int32)) = 0)) ∧ (¬ ((ty &&& (1 : Int32)) = 0)))) ∨ ((¬ ((((0 : Int32) ||| tx) &&& (4 : Int32)) = 0)) ∧ (¬ ((ty &&& (8 : Int32)) = 0))) ∨ ((¬ ((((0 : Int32) ||| tx) &&& (8 : Int32)) = 0)) ∧ (¬ ((ty &&& (4 : Int32)) = 0)))) ∨ (bt 9 b)))) 146 n (((0 : Int32) ||| tx) ||| ty)) pst157 := by
                        intro b163
                        refine zv_c1 ht159 rfl rfl (zv_c1 ht159 rfl rfl ?_)
                        exact (zv_sub (zz := zbo ((((bt 9 a) ∨ (((¬ ((((0 : Int32) ||| tx) &&& (1 : Int32)) = 0)) ∧ (¬ ((ty &&& (2 : Int32)) = 0))) ∨ ((¬ ((((0 : Int32) ||| tx) &&& (2 : Int32)) = 0)) ∧ (¬ ((ty &&& (1 : Int32)) = 0)))) ∨ ((¬ ((((0 : Int32) ||| tx) &&& (4 : Int32)) = 0)) ∧ (¬ ((ty &&& (8 : Int32)) = 0))) ∨ ((¬ ((((0 : Int32) ||| tx) &&& (8 : Int32)) = 0)) ∧ (¬ ((ty &&& (4 : Int32)) = 0)))) ∨ (bt 9 b)) ∨ (bt 9 c))) (zy := 1) (p := fun zz => zEv (d - 1) 286 73 [.ref n, .ref w, .retAddr 0] [.int zz, .ref n] (sI (sI (sI (sI (sI (sI (sI (sI (sI (sI (sI (sI (sI (sI (sI S 145 n (q + 1)) 147 n (zbo ((bt 0 a) ∧ (bt 0 b) ∧ (bt 0 c)))) 148 n (zbo (((bt 0 a) ∧ (bt 1 b) ∧ (bt 1 c)) ∨ ((bt 1 a) ∧ (bt 0 b) ∧ (bt 0 c))))) 149 n 0) 150 n (zbo (bt 3 c))) 151 n (zbo ((bt 4 b) ∧ (bt 4 c)))) 152 n (zbo ((bt 5 c) ∧ ((bt 5 a) ∨ (bt 5 b))))) 153 n (zbo ((bt 6 c) ∧ ((bt 5 a) ∨ (bt 6 b))))) 154 n (zbo ((bt 7 c) ∧ ((bt 5 a) ∨ (bt 6 b))))) 155 n (zbo ((bt 8 a) ∧ (bt 8 b) ∧ (bt 8 c) ∧ (bt 7 a) ∧ ((bt 5 a) ∨ (bt 5 b) ∨ (bt 5 c))))) 156 n (zbo (bt 9 a))) 146 n ((0 : Int32) ||| tx)) 156 n (zbo ((bt 9 a) ∨ (((¬ ((((0 : Int32) ||| tx) &&& (1 : Int32)) = 0)) ∧ (¬ ((ty &&& (2 : Int32)) = 0))) ∨ ((¬ ((((0 : Int32) ||| tx) &&& (2 : Int32)) = 0)) ∧ (¬ ((ty &&& (1 : Int32)) = 0)))) ∨ ((¬ ((((0 : Int32) ||| tx) &&& (4 : Int32)) = 0)) ∧ (¬ ((ty &&& (8 : Int32)) = 0))) ∨ ((¬ ((((0 : Int32) ||| tx) &&& (8 : Int32)) = 0)) ∧ (¬ ((ty &&& (4 : Int32)) = 0)))))) 156 n (zbo (((bt 9 a) ∨ (((¬ ((((0 : Int32) ||| tx) &&& (1 : Int32)) = 0)) ∧ (¬ ((ty &&& (2 : Int32)) = 0))) ∨ ((¬ ((((0 : Int32) ||| tx) &&& (2 : Int32)) = 0)) ∧ (¬ ((ty &&& (1 : Int32)) = 0)))) ∨ ((¬ ((((0 : Int32) ||| tx) &&& (4 : Int32)) = 0)) ∧ (¬ ((ty &&& (8 : Int32)) = 0))) ∨ ((¬ ((((0 : Int32) ||| tx) &&& (8 : Int32)) = 0)) ∧ (¬ ((ty &&& (4 : Int32)) = 0)))) ∨ (bt 9 b)))) 146 n (((0 : Int32) ||| tx) ||| ty)) pst157) (zbo_pos b163) J164)
                      refine zv_br ht159 rfl rfl rfl (fun b160 => ?_) (fun b160 => ?_)
                      · replace b160 : ((bt 9 a) ∨ (((¬ ((((0 : Int32) ||| tx) &&& (1 : Int32)) = 0)) ∧ (¬ ((ty &&& (2 : Int32)) = 0))) ∨ ((¬ ((((0 : Int32) ||| tx) &&& (2 : Int32)) = 0)) ∧ (¬ ((ty &&& (1 : Int32)) = 0)))) ∨ ((¬ ((((0 : Int32) ||| tx) &&& (4 : Int32)) = 0)) ∧ (¬ ((ty &&& (8 : Int32)) = 0))) ∨ ((¬ ((((0 : Int32) ||| tx) &&& (8 : Int32)) = 0)) ∧ (¬ ((ty &&& (4 : Int32)) = 0)))) ∨ (bt 9 b) := Classical.byContradiction (fun h => b160 ((zbo_eq0 : (zbo (((bt 9 a) ∨ (((¬ ((((0 : Int32) ||| tx) &&& (1 : Int32)) = 0)) ∧ (¬ ((ty &&& (2 : Int32)) = 0))) ∨ ((¬ ((((0 : Int32) ||| tx) &&& (2 : Int32)) = 0)) ∧ (¬ ((ty &&& (1 : Int32)) = 0)))) ∨ ((¬ ((((0 : Int32) ||| tx) &&& (4 : Int32)) = 0)) ∧ (¬ ((ty &&& (8 : Int32)) = 0))) ∨ ((¬ ((((0 : Int32) ||| tx) &&& (8 : Int32)) = 0)) ∧ (¬ ((ty &&& (4 : Int32)) = 0)))) ∨ (bt 9 b))) = 0 ↔ ¬ (((bt 9 a) ∨ (((¬ ((((0 : Int32) ||| tx) &&& (1 : Int32)) = 0)) ∧ (¬ ((ty &&& (2 : Int32)) = 0))) ∨ ((¬ ((((0 : Int32) ||| tx) &&& (2 : Int32)) = 0)) ∧ (¬ ((ty &&& (1 : Int32)) = 0)))) ∨ ((¬ ((((0 : Int32) ||| tx) &&& (4 : Int32)) = 0)) ∧ (¬ ((ty &&& (8 : Int32)) = 0))) ∨ ((¬ ((((0 : Int32) ||| tx) &&& (8 : Int32)) = 0)) ∧ (¬ ((ty &&& (4 : Int32)) = 0)))) ∨ (bt 9 b))).mpr h))
                        exact zEv.wk (L := [.ref n, .ref w, .retAddr 0]) (L' := [.ref n, .ref w, .int 0]) (And.intro (Or.inl rfl) (And.intro (Or.inl rfl) (And.intro (Or.inr rfl) trivial))) (J162 (Or.inl b160))
                      · replace b160 : ¬ (((bt 9 a) ∨ (((¬ ((((0 : Int32) ||| tx) &&& (1 : Int32)) = 0)) ∧ (¬ ((ty &&& (2 : Int32)) = 0))) ∨ ((¬ ((((0 : Int32) ||| tx) &&& (2 : Int32)) = 0)) ∧ (¬ ((ty &&& (1 : Int32)) = 0)))) ∨ ((¬ ((((0 : Int32) ||| tx) &&& (4 : Int32)) = 0)) ∧ (¬ ((ty &&& (8 : Int32)) = 0))) ∨ ((¬ ((((0 : Int32) ||| tx) &&& (8 : Int32)) = 0)) ∧ (¬ ((ty &&& (4 : Int32)) = 0)))) ∨ (bt 9 b)) := (zbo_eq0 : (zbo (((bt 9 a) ∨ (((¬ ((((0 : Int32) ||| tx) &&& (1 : Int32)) = 0)) ∧ (¬ ((ty &&& (2 : Int32)) = 0))) ∨ ((¬ ((((0 : Int32) ||| tx) &&& (2 : Int32)) = 0)) ∧ (¬ ((ty &&& (1 : Int32)) = 0)))) ∨ ((¬ ((((0 : Int32) ||| tx) &&& (4 : Int32)) = 0)) ∧ (¬ ((ty &&& (8 : Int32)) = 0))) ∨ ((¬ ((((0 : Int32) ||| tx) &&& (8 : Int32)) = 0)) ∧ (¬ ((ty &&& (4 : Int32)) = 0)))) ∨ (bt 9 b))) = 0 ↔ ¬ (((bt 9 a) ∨ (((¬ ((((0 : Int32) ||| tx) &&& (1 : Int32)) = 0)) ∧ (¬ ((ty &&& (2 : Int32)) = 0))) ∨ ((¬ ((((0 : Int32) ||| tx) &&& (2 : Int32)) = 0)) ∧ (¬ ((ty &&& (1 : Int32)) = 0)))) ∨ ((¬ ((((0 : Int32) ||| tx) &&& (4 : Int32)) = 0)) ∧ (¬ ((ty &&& (8 : Int32)) = 0))) ∨ ((¬ ((((0 : Int32) ||| tx) &&& (8 : Int32)) = 0)) ∧ (¬ ((ty &&& (4 : Int32)) = 0)))) ∨ (bt 9 b))).mp (Classical.not_not.mp b160)
                        refine zv_c1 ht159 rfl rfl ?_
                        refine zv_ei (x := zbo (bt 9 c)) ht159 rfl rfl (zhas_nc hcw (by decide)) (Eq.trans (gI_sI_ne (by omega)) (Eq.trans (gI_sI_ne (by omega)) (Eq.trans (gI_sI_ne (by omega)) hmixedw))) ?_
                        refine zv_br ht159 rfl rfl rfl (fun b161 => ?_) (fun b161 => ?_)
                        · replace b161 : ¬ (bt 9 c) := (zbo_eq0 : (zbo (bt 9 c)) = 0 ↔ ¬ (bt 9 c)).mp b161
                          refine zv_c1 ht159 rfl rfl ?_
                          exact zEv.wk (L := [.ref n, .ref w, .retAddr 0]) (L' := [.ref n, .ref w, .int 0]) (And.intro (Or.inl rfl) (And.intro (Or.inl rfl) (And.intro (Or.inr rfl) trivial))) (zv_sub (zz := zbo ((((bt 9 a) ∨ (((¬ ((((0 : Int32) ||| tx) &&& (1 : Int32)) = 0)) ∧ (¬ ((ty &&& (2 : Int32)) = 0))) ∨ ((¬ ((((0 : Int32) ||| tx) &&& (2 : Int32)) = 0)) ∧ (¬ ((ty &&& (1 : Int32)) = 0)))) ∨ ((¬ ((((0 : Int32) ||| tx) &&& (4 : Int32)) = 0)) ∧ (¬ ((ty &&& (8 : Int32)) = 0))) ∨ ((¬ ((((0 : Int32) ||| tx) &&& (8 : Int32)) = 0)) ∧ (¬ ((ty &&& (4 : Int32)) = 0)))) ∨ (bt 9 b)) ∨ (bt 9 c))) (zy := 0) (p := fun zz => zEv (d - 1) 286 73 [.ref n, .ref w, .retAddr 0] [.int zz, .ref n] (sI (sI (sI (sI (sI (sI (sI (sI (sI (sI (sI (sI (sI (sI (sI S 145 n (q + 1)) 147 n (zbo ((bt 0 a) ∧ (bt 0 b) ∧ (bt 0 c)))) 148 n (zbo (((bt 0 a) ∧ (bt 1 b) ∧ (bt 1 c)) ∨ ((bt 1 a) ∧ (bt 0 b) ∧ (bt 0 c))))) 149 n 0) 150 n (zbo (bt 3 c))) 151 n (zbo ((bt 4 b) ∧ (bt 4 c)))) 152 n (zbo ((bt 5 c) ∧ ((bt 5 a) ∨ (bt 5 b))))) 153 n (zbo ((bt 6 c) ∧ ((bt 5 a) ∨ (bt 6 b))))) 154 n (zbo ((bt 7 c) ∧ ((bt 5 a) ∨ (bt 6 b))))) 155 n (zbo ((bt 8 a) ∧ (bt 8 b) ∧ (bt 8 c) ∧ (bt 7 a) ∧ ((bt 5 a) ∨ (bt 5 b) ∨ (bt 5 c))))) 156 n (zbo (bt 9 a))) 146 n ((0 : Int32) ||| tx)) 156 n (zbo ((bt 9 a) ∨ (((¬ ((((0 : Int32) ||| tx) &&& (1 : Int32)) = 0)) ∧ (¬ ((ty &&& (2 : Int32)) = 0))) ∨ ((¬ ((((0 : Int32) ||| tx) &&& (2 : Int32)) = 0)) ∧ (¬ ((ty &&& (1 : Int32)) = 0)))) ∨ ((¬ ((((0 : Int32) ||| tx) &&& (4 : Int32)) = 0)) ∧ (¬ ((ty &&& (8 : Int32)) = 0))) ∨ ((¬ ((((0 : Int32) ||| tx) &&& (8 : Int32)) = 0)) ∧ (¬ ((ty &&& (4 : Int32)) = 0)))))) 156 n (zbo (((bt 9 a) ∨ (((¬ ((((0 : Int32) ||| tx) &&& (1 : Int32)) = 0)) ∧ (¬ ((ty &&& (2 : Int32)) = 0))) ∨ ((¬ ((((0 : Int32) ||| tx) &&& (2 : Int32)) = 0)) ∧ (¬ ((ty &&& (1 : Int32)) = 0)))) ∨ ((¬ ((((0 : Int32) ||| tx) &&& (4 : Int32)) = 0)) ∧ (¬ ((ty &&& (8 : Int32)) = 0))) ∨ ((¬ ((((0 : Int32) ||| tx) &&& (8 : Int32)) = 0)) ∧ (¬ ((ty &&& (4 : Int32)) = 0)))) ∨ (bt 9 b)))) 146 n (((0 : Int32) ||| tx) ||| ty)) pst157) (zbo_neg (fun h => h.elim b160 b161)) J164)
                        · replace b161 : bt 9 c := Classical.byContradiction (fun h => b161 ((zbo_eq0 : (zbo (bt 9 c)) = 0 ↔ ¬ (bt 9 c)).mpr h))
                          exact zEv.wk (L := [.ref n, .ref w, .retAddr 0]) (L' := [.ref n, .ref w, .int 0]) (And.intro (Or.inl rfl) (And.intro (Or.inl rfl) (And.intro (Or.inr rfl) trivial))) (J162 (Or.inr b161))
                    refine zv_cl ht rfl rfl rfl (zv_tgv (htn) rfl) (by omega) (Nat.le_of_ble_eq_true rfl) (C158 _ ?_)
                    show zEv d 360 398 [.ref n] [] (sI (sI (sI (sI (sI (sI (sI (sI (sI (sI (sI (sI (sI (sI (sI (sI (sI S 145 n (q + 1)) 147 n (zbo ((bt 0 a) ∧ (bt 0 b) ∧ (bt 0 c)))) 148 n (zbo (((bt 0 a) ∧ (bt 1 b) ∧ (bt 1 c)) ∨ ((bt 1 a) ∧ (bt 0 b) ∧ (bt 0 c))))) 149 n 0) 150 n (zbo (bt 3 c))) 151 n (zbo ((bt 4 b) ∧ (bt 4 c)))) 152 n (zbo ((bt 5 c) ∧ ((bt 5 a) ∨ (bt 5 b))))) 153 n (zbo ((bt 6 c) ∧ ((bt 5 a) ∨ (bt 6 b))))) 154 n (zbo ((bt 7 c) ∧ ((bt 5 a) ∨ (bt 6 b))))) 155 n (zbo ((bt 8 a) ∧ (bt 8 b) ∧ (bt 8 c) ∧ (bt 7 a) ∧ ((bt 5 a) ∨ (bt 5 b) ∨ (bt 5 c))))) 156 n (zbo (bt 9 a))) 146 n ((0 : Int32) ||| tx)) 156 n (zbo ((bt 9 a) ∨ (((¬ ((((0 : Int32) ||| tx) &&& (1 : Int32)) = 0)) ∧ (¬ ((ty &&& (2 : Int32)) = 0))) ∨ ((¬ ((((0 : Int32) ||| tx) &&& (2 : Int32)) = 0)) ∧ (¬ ((ty &&& (1 : Int32)) = 0)))) ∨ ((¬ ((((0 : Int32) ||| tx) &&& (4 : Int32)) = 0)) ∧ (¬ ((ty &&& (8 : Int32)) = 0))) ∨ ((¬ ((((0 : Int32) ||| tx) &&& (8 : Int32)) = 0)) ∧ (¬ ((ty &&& (4 : Int32)) = 0)))))) 156 n (zbo (((bt 9 a) ∨ (((¬ ((((0 : Int32) ||| tx) &&& (1 : Int32)) = 0)) ∧ (¬ ((ty &&& (2 : Int32)) = 0))) ∨ ((¬ ((((0 : Int32) ||| tx) &&& (2 : Int32)) = 0)) ∧ (¬ ((ty &&& (1 : Int32)) = 0)))) ∨ ((¬ ((((0 : Int32) ||| tx) &&& (4 : Int32)) = 0)) ∧ (¬ ((ty &&& (8 : Int32)) = 0))) ∨ ((¬ ((((0 : Int32) ||| tx) &&& (8 : Int32)) = 0)) ∧ (¬ ((ty &&& (4 : Int32)) = 0)))) ∨ (bt 9 b)))) 146 n (((0 : Int32) ||| tx) ||| ty)) 156 n (zbo ((((bt 9 a) ∨ (((¬ ((((0 : Int32) ||| tx) &&& (1 : Int32)) = 0)) ∧ (¬ ((ty &&& (2 : Int32)) = 0))) ∨ ((¬ ((((0 : Int32) ||| tx) &&& (2 : Int32)) = 0)) ∧ (¬ ((ty &&& (1 : Int32)) = 0)))) ∨ ((¬ ((((0 : Int32) ||| tx) &&& (4 : Int32)) = 0)) ∧ (¬ ((ty &&& (8 : Int32)) = 0))) ∨ ((¬ ((((0 : Int32) ||| tx) &&& (8 : Int32)) = 0)) ∧ (¬ ((ty &&& (4 : Int32)) = 0)))) ∨ (bt 9 b)) ∨ (bt 9 c)))) 146 n ((((0 : Int32) ||| tx) ||| ty) ||| tw)) post
                    exact zv_rt ht rfl rfl rfl rfl (h1 b12 b23)
                  have J92 : (((((¬ (bt 8 a)) ∨ (¬ (bt 8 b))) ∨ (¬ (bt 8 c))) ∨ (¬ (bt 7 a))) ∨ ((¬ (bt 5 a)) ∧ (¬ (bt 5 b)) ∧ (¬ (bt 5 c)))) → zEv d 360 367 [.ref n] [.int (zbo ((bt 7 c) ∧ ((bt 5 a) ∨ (bt 6 b)))), .int (zbo ((bt 6 c) ∧ ((bt 5 a) ∨ (bt 6 b)))), .int (zbo ((bt 5 c) ∧ ((bt 5 a) ∨ (bt 5 b)))), .ref n] (sI (sI (sI (sI (sI (sI S 145 n (q + 1)) 147 n (zbo ((bt 0 a) ∧ (bt 0 b) ∧ (bt 0 c)))) 148 n (zbo (((bt 0 a) ∧ (bt 1 b) ∧ (bt 1 c)) ∨ ((bt 1 a) ∧ (bt 0 b) ∧ (bt 0 c))))) 149 n 0) 150 n (zbo (bt 3 c))) 151 n (zbo ((bt 4 b) ∧ (bt 4 c)))) post := by
                    intro b93
                    refine zv_c1 ht rfl rfl ?_
                    exact (zv_sub (zz := zbo ((bt 8 a) ∧ (bt 8 b) ∧ (bt 8 c) ∧ (bt 7 a) ∧ ((bt 5 a) ∨ (bt 5 b) ∨ (bt 5 c)))) (zy := 0) (p := fun zz => zEv d 360 368 [.ref n] [.int zz, .int (zbo ((bt 7 c) ∧ ((bt 5 a) ∨ (bt 6 b)))), .int (zbo ((bt 6 c) ∧ ((bt 5 a) ∨ (bt 6 b)))), .int (zbo ((bt 5 c) ∧ ((bt 5 a) ∨ (bt 5 b)))), .ref n] (sI (sI (sI (sI (sI (sI S 145 n (q + 1)) 147 n (zbo ((bt 0 a) ∧ (bt 0 b) ∧ (bt 0 c)))) 148 n (zbo (((bt 0 a) ∧ (bt 1 b) ∧ (bt 1 c)) ∨ ((bt 1 a) ∧ (bt 0 b) ∧ (bt 0 c))))) 149 n 0) 150 n (zbo (bt 3 c))) 151 n (zbo ((bt 4 b) ∧ (bt 4 c)))) post) (zbo_neg (b93.elim (fun y1 => (y1.elim (fun y2 => (y2.elim (fun y3 => (y3.elim (fun y4 => (fun h => y4 h.1)) (fun y4 => (fun h => (fun h => y4 h.1) h.2)))) (fun y3 => (fun h => (fun h => (fun h => y3 h.1) h.2) h.2)))) (fun y2 => (fun h => (fun h => (fun h => (fun h => y2 h.1) h.2) h.2) h.2)))) (fun y1 => (fun h => (fun h => (fun h => (fun h => (fun h => h.elim y1.1 (fun h => h.elim y1.2.1 y1.2.2)) h.2) h.2) h.2) h.2)))) J94)
                  refine zv_br ht rfl rfl rfl (fun b83 => ?_) (fun b83 => ?_)
                  · replace b83 : ¬ (bt 8 a) := (zbo_eq0 : (zbo (bt 8 a)) = 0 ↔ ¬ (bt 8 a)).mp b83
                    exact (J92 (Or.inl (Or.inl (Or.inl (Or.inl b83)))))
                  · replace b83 : bt 8 a := Classical.byContradiction (fun h => b83 ((zbo_eq0 : (zbo (bt 8 a)) = 0 ↔ ¬ (bt 8 a)).mpr h))
                    refine zv_c1 ht rfl rfl ?_
                    refine zv_g3 (q := y) ht rfl hF rfl rfl (zhas_of (htn) rfl) hpy ?_
                    refine zv_ei (x := zbo (bt 8 b)) ht rfl rfl (zhas_nc hcy (by decide)) hmy ?_
                    refine zv_br ht rfl rfl rfl (fun b84 => ?_) (fun b84 => ?_)
                    · replace b84 : ¬ (bt 8 b) := (zbo_eq0 : (zbo (bt 8 b)) = 0 ↔ ¬ (bt 8 b)).mp b84
                      exact (J92 (Or.inl (Or.inl (Or.inl (Or.inr b84)))))
                    · replace b84 : bt 8 b := Classical.byContradiction (fun h => b84 ((zbo_eq0 : (zbo (bt 8 b)) = 0 ↔ ¬ (bt 8 b)).mpr h))
                      refine zv_c1 ht rfl rfl ?_
                      refine zv_g3 (q := w) ht rfl hF rfl rfl (zhas_of (htn) rfl) hpw ?_
                      refine zv_ei (x := zbo (bt 8 c)) ht rfl rfl (zhas_nc hcw (by decide)) hmw ?_
                      refine zv_br ht rfl rfl rfl (fun b85 => ?_) (fun b85 => ?_)
                      · replace b85 : ¬ (bt 8 c) := (zbo_eq0 : (zbo (bt 8 c)) = 0 ↔ ¬ (bt 8 c)).mp b85
                        exact (J92 (Or.inl (Or.inl (Or.inr b85))))
                      · replace b85 : bt 8 c := Classical.byContradiction (fun h => b85 ((zbo_eq0 : (zbo (bt 8 c)) = 0 ↔ ¬ (bt 8 c)).mpr h))
                        refine zv_c1 ht rfl rfl ?_
                        refine zv_g3 (q := x) ht rfl hF rfl rfl (zhas_of (htn) rfl) hpx ?_
                        refine zv_ei (x := zbo (bt 7 a)) ht rfl rfl (zhas_nc hcx (by decide)) hex ?_
                        refine zv_br ht rfl rfl rfl (fun b86 => ?_) (fun b86 => ?_)
                        · replace b86 : ¬ (bt 7 a) := (zbo_eq0 : (zbo (bt 7 a)) = 0 ↔ ¬ (bt 7 a)).mp b86
                          exact (J92 (Or.inl (Or.inr b86)))
                        · replace b86 : bt 7 a := Classical.byContradiction (fun h => b86 ((zbo_eq0 : (zbo (bt 7 a)) = 0 ↔ ¬ (bt 7 a)).mpr h))
                          refine zv_c1 ht rfl rfl ?_
                          refine zv_g3 (q := x) ht rfl hF rfl rfl (zhas_of (htn) rfl) hpx ?_
                          refine zv_ei (x := zbo (bt 5 a)) ht rfl rfl (zhas_nc hcx (by decide)) hsx ?_
                          have J90 : ((bt 5 a) ∨ (bt 5 b) ∨ (bt 5 c)) → zEv d 360 363 [.ref n] [.int (zbo ((bt 7 c) ∧ ((bt 5 a) ∨ (bt 6 b)))), .int (zbo ((bt 6 c) ∧ ((bt 5 a) ∨ (bt 6 b)))), .int (zbo ((bt 5 c) ∧ ((bt 5 a) ∨ (bt 5 b)))), .ref n] (sI (sI (sI (sI (sI (sI S 145 n (q + 1)) 147 n (zbo ((bt 0 a) ∧ (bt 0 b) ∧ (bt 0 c)))) 148 n (zbo (((bt 0 a) ∧ (bt 1 b) ∧ (bt 1 c)) ∨ ((bt 1 a) ∧ (bt 0 b) ∧ (bt 0 c))))) 149 n 0) 150 n (zbo (bt 3 c))) 151 n (zbo ((bt 4 b) ∧ (bt 4 c)))) post := by
                            intro b91
                            refine zv_c1 ht rfl rfl (zv_c1 ht rfl rfl ?_)
                            exact (zv_sub (zz := zbo ((bt 8 a) ∧ (bt 8 b) ∧ (bt 8 c) ∧ (bt 7 a) ∧ ((bt 5 a) ∨ (bt 5 b) ∨ (bt 5 c)))) (zy := 1) (p := fun zz => zEv d 360 368 [.ref n] [.int zz, .int (zbo ((bt 7 c) ∧ ((bt 5 a) ∨ (bt 6 b)))), .int (zbo ((bt 6 c) ∧ ((bt 5 a) ∨ (bt 6 b)))), .int (zbo ((bt 5 c) ∧ ((bt 5 a) ∨ (bt 5 b)))), .ref n] (sI (sI (sI (sI (sI (sI S 145 n (q + 1)) 147 n (zbo ((bt 0 a) ∧ (bt 0 b) ∧ (bt 0 c)))) 148 n (zbo (((bt 0 a) ∧ (bt 1 b) ∧ (bt 1 c)) ∨ ((bt 1 a) ∧ (bt 0 b) ∧ (bt 0 c))))) 149 n 0) 150 n (zbo (bt 3 c))) 151 n (zbo ((bt 4 b) ∧ (bt 4 c)))) post) (zbo_pos ⟨b83, ⟨b84, ⟨b85, ⟨b86, b91⟩⟩⟩⟩) J94)
                          refine zv_br ht rfl rfl rfl (fun b87 => ?_) (fun b87 => ?_)
                          · replace b87 : bt 5 a := Classical.byContradiction (fun h => b87 ((zbo_eq0 : (zbo (bt 5 a)) = 0 ↔ ¬ (bt 5 a)).mpr h))
                            exact (J90 (Or.inl b87))
                          · replace b87 : ¬ (bt 5 a) := (zbo_eq0 : (zbo (bt 5 a)) = 0 ↔ ¬ (bt 5 a)).mp (Classical.not_not.mp b87)
                            refine zv_c1 ht rfl rfl ?_
                            refine zv_g3 (q := y) ht rfl hF rfl rfl (zhas_of (htn) rfl) hpy ?_
                            refine zv_ei (x := zbo (bt 5 b)) ht rfl rfl (zhas_nc hcy (by decide)) hsy ?_
                            refine zv_br ht rfl rfl rfl (fun b88 => ?_) (fun b88 => ?_)
                            · replace b88 : bt 5 b := Classical.byContradiction (fun h => b88 ((zbo_eq0 : (zbo (bt 5 b)) = 0 ↔ ¬ (bt 5 b)).mpr h))
                              exact (J90 (Or.inr (Or.inl b88)))
                            · replace b88 : ¬ (bt 5 b) := (zbo_eq0 : (zbo (bt 5 b)) = 0 ↔ ¬ (bt 5 b)).mp (Classical.not_not.mp b88)
                              refine zv_c1 ht rfl rfl ?_
                              refine zv_g3 (q := w) ht rfl hF rfl rfl (zhas_of (htn) rfl) hpw ?_
                              refine zv_ei (x := zbo (bt 5 c)) ht rfl rfl (zhas_nc hcw (by decide)) hsw ?_
                              refine zv_br ht rfl rfl rfl (fun b89 => ?_) (fun b89 => ?_)
                              · replace b89 : ¬ (bt 5 c) := (zbo_eq0 : (zbo (bt 5 c)) = 0 ↔ ¬ (bt 5 c)).mp b89
                                exact (J92 (Or.inr ⟨b87, ⟨b88, b89⟩⟩))
                              · replace b89 : bt 5 c := Classical.byContradiction (fun h => b89 ((zbo_eq0 : (zbo (bt 5 c)) = 0 ↔ ¬ (bt 5 c)).mpr h))
                                exact (J90 (Or.inr (Or.inr b89)))
                have J79 : ((¬ (bt 7 c)) ∨ ((¬ (bt 5 a)) ∧ (¬ (bt 6 b)))) → zEv d 360 292 [.ref n] [.int (zbo ((bt 6 c) ∧ ((bt 5 a) ∨ (bt 6 b)))), .int (zbo ((bt 5 c) ∧ ((bt 5 a) ∨ (bt 5 b)))), .ref n] (sI (sI (sI (sI (sI (sI S 145 n (q + 1)) 147 n (zbo ((bt 0 a) ∧ (bt 0 b) ∧ (bt 0 c)))) 148 n (zbo (((bt 0 a) ∧ (bt 1 b) ∧ (bt 1 c)) ∨ ((bt 1 a) ∧ (bt 0 b) ∧ (bt 0 c))))) 149 n 0) 150 n (zbo (bt 3 c))) 151 n (zbo ((bt 4 b) ∧ (bt 4 c)))) post := by
                  intro b80
                  refine zv_c1 ht rfl rfl ?_
                  exact (zv_sub (zz := zbo ((bt 7 c) ∧ ((bt 5 a) ∨ (bt 6 b)))) (zy := 0) (p := fun zz => zEv d 360 293 [.ref n] [.int zz, .int (zbo ((bt 6 c) ∧ ((bt 5 a) ∨ (bt 6 b)))), .int (zbo ((bt 5 c) ∧ ((bt 5 a) ∨ (bt 5 b)))), .ref n] (sI (sI (sI (sI (sI (sI S 145 n (q + 1)) 147 n (zbo ((bt 0 a) ∧ (bt 0 b) ∧ (bt 0 c)))) 148 n (zbo (((bt 0 a) ∧ (bt 1 b) ∧ (bt 1 c)) ∨ ((bt 1 a) ∧ (bt 0 b) ∧ (bt 0 c))))) 149 n 0) 150 n (zbo (bt 3 c))) 151 n (zbo ((bt 4 b) ∧ (bt 4 c)))) post) (zbo_neg (b80.elim (fun y1 => (fun h => y1 h.1)) (fun y1 => (fun h => (fun h => h.elim y1.1 y1.2) h.2)))) J81)
                refine zv_br ht rfl rfl rfl (fun b74 => ?_) (fun b74 => ?_)
                · replace b74 : ¬ (bt 7 c) := (zbo_eq0 : (zbo (bt 7 c)) = 0 ↔ ¬ (bt 7 c)).mp b74
                  exact (J79 (Or.inl b74))
                · replace b74 : bt 7 c := Classical.byContradiction (fun h => b74 ((zbo_eq0 : (zbo (bt 7 c)) = 0 ↔ ¬ (bt 7 c)).mpr h))
                  refine zv_c1 ht rfl rfl ?_
                  refine zv_g3 (q := x) ht rfl hF rfl rfl (zhas_of (htn) rfl) hpx ?_
                  refine zv_ei (x := zbo (bt 5 a)) ht rfl rfl (zhas_nc hcx (by decide)) hsx ?_
                  have J77 : ((bt 5 a) ∨ (bt 6 b)) → zEv d 360 288 [.ref n] [.int (zbo ((bt 6 c) ∧ ((bt 5 a) ∨ (bt 6 b)))), .int (zbo ((bt 5 c) ∧ ((bt 5 a) ∨ (bt 5 b)))), .ref n] (sI (sI (sI (sI (sI (sI S 145 n (q + 1)) 147 n (zbo ((bt 0 a) ∧ (bt 0 b) ∧ (bt 0 c)))) 148 n (zbo (((bt 0 a) ∧ (bt 1 b) ∧ (bt 1 c)) ∨ ((bt 1 a) ∧ (bt 0 b) ∧ (bt 0 c))))) 149 n 0) 150 n (zbo (bt 3 c))) 151 n (zbo ((bt 4 b) ∧ (bt 4 c)))) post := by
                    intro b78
                    refine zv_c1 ht rfl rfl (zv_c1 ht rfl rfl ?_)
                    exact (zv_sub (zz := zbo ((bt 7 c) ∧ ((bt 5 a) ∨ (bt 6 b)))) (zy := 1) (p := fun zz => zEv d 360 293 [.ref n] [.int zz, .int (zbo ((bt 6 c) ∧ ((bt 5 a) ∨ (bt 6 b)))), .int (zbo ((bt 5 c) ∧ ((bt 5 a) ∨ (bt 5 b)))), .ref n] (sI (sI (sI (sI (sI (sI S 145 n (q + 1)) 147 n (zbo ((bt 0 a) ∧ (bt 0 b) ∧ (bt 0 c)))) 148 n (zbo (((bt 0 a) ∧ (bt 1 b) ∧ (bt 1 c)) ∨ ((bt 1 a) ∧ (bt 0 b) ∧ (bt 0 c))))) 149 n 0) 150 n (zbo (bt 3 c))) 151 n (zbo ((bt 4 b) ∧ (bt 4 c)))) post) (zbo_pos ⟨b74, b78⟩) J81)
                  refine zv_br ht rfl rfl rfl (fun b75 => ?_) (fun b75 => ?_)
                  · replace b75 : bt 5 a := Classical.byContradiction (fun h => b75 ((zbo_eq0 : (zbo (bt 5 a)) = 0 ↔ ¬ (bt 5 a)).mpr h))
                    exact (J77 (Or.inl b75))
                  · replace b75 : ¬ (bt 5 a) := (zbo_eq0 : (zbo (bt 5 a)) = 0 ↔ ¬ (bt 5 a)).mp (Classical.not_not.mp b75)
                    refine zv_c1 ht rfl rfl ?_
                    refine zv_g3 (q := y) ht rfl hF rfl rfl (zhas_of (htn) rfl) hpy ?_
                    refine zv_ei (x := zbo (bt 6 b)) ht rfl rfl (zhas_nc hcy (by decide)) hfy ?_
                    refine zv_br ht rfl rfl rfl (fun b76 => ?_) (fun b76 => ?_)
                    · replace b76 : ¬ (bt 6 b) := (zbo_eq0 : (zbo (bt 6 b)) = 0 ↔ ¬ (bt 6 b)).mp b76
                      exact (J79 (Or.inr ⟨b75, b76⟩))
                    · replace b76 : bt 6 b := Classical.byContradiction (fun h => b76 ((zbo_eq0 : (zbo (bt 6 b)) = 0 ↔ ¬ (bt 6 b)).mpr h))
                      exact (J77 (Or.inr b76))
              have J70 : ((¬ (bt 6 c)) ∨ ((¬ (bt 5 a)) ∧ (¬ (bt 6 b)))) → zEv d 360 257 [.ref n] [.int (zbo ((bt 5 c) ∧ ((bt 5 a) ∨ (bt 5 b)))), .ref n] (sI (sI (sI (sI (sI (sI S 145 n (q + 1)) 147 n (zbo ((bt 0 a) ∧ (bt 0 b) ∧ (bt 0 c)))) 148 n (zbo (((bt 0 a) ∧ (bt 1 b) ∧ (bt 1 c)) ∨ ((bt 1 a) ∧ (bt 0 b) ∧ (bt 0 c))))) 149 n 0) 150 n (zbo (bt 3 c))) 151 n (zbo ((bt 4 b) ∧ (bt 4 c)))) post := by
                intro b71
                refine zv_c1 ht rfl rfl ?_
                exact (zv_sub (zz := zbo ((bt 6 c) ∧ ((bt 5 a) ∨ (bt 6 b)))) (zy := 0) (p := fun zz => zEv d 360 258 [.ref n] [.int zz, .int (zbo ((bt 5 c) ∧ ((bt 5 a) ∨ (bt 5 b)))), .ref n] (sI (sI (sI (sI (sI (sI S 145 n (q + 1)) 147 n (zbo ((bt 0 a) ∧ (bt 0 b) ∧ (bt 0 c)))) 148 n (zbo (((bt 0 a) ∧ (bt 1 b) ∧ (bt 1 c)) ∨ ((bt 1 a) ∧ (bt 0 b) ∧ (bt 0 c))))) 149 n 0) 150 n (zbo (bt 3 c))) 151 n (zbo ((bt 4 b) ∧ (bt 4 c)))) post) (zbo_neg (b71.elim (fun y1 => (fun h => y1 h.1)) (fun y1 => (fun h => (fun h => h.elim y1.1 y1.2) h.2)))) J72)
              refine zv_br ht rfl rfl rfl (fun b65 => ?_) (fun b65 => ?_)
              · replace b65 : ¬ (bt 6 c) := (zbo_eq0 : (zbo (bt 6 c)) = 0 ↔ ¬ (bt 6 c)).mp b65
                exact (J70 (Or.inl b65))
              · replace b65 : bt 6 c := Classical.byContradiction (fun h => b65 ((zbo_eq0 : (zbo (bt 6 c)) = 0 ↔ ¬ (bt 6 c)).mpr h))
                refine zv_c1 ht rfl rfl ?_
                refine zv_g3 (q := x) ht rfl hF rfl rfl (zhas_of (htn) rfl) hpx ?_
                refine zv_ei (x := zbo (bt 5 a)) ht rfl rfl (zhas_nc hcx (by decide)) hsx ?_
                have J68 : ((bt 5 a) ∨ (bt 6 b)) → zEv d 360 253 [.ref n] [.int (zbo ((bt 5 c) ∧ ((bt 5 a) ∨ (bt 5 b)))), .ref n] (sI (sI (sI (sI (sI (sI S 145 n (q + 1)) 147 n (zbo ((bt 0 a) ∧ (bt 0 b) ∧ (bt 0 c)))) 148 n (zbo (((bt 0 a) ∧ (bt 1 b) ∧ (bt 1 c)) ∨ ((bt 1 a) ∧ (bt 0 b) ∧ (bt 0 c))))) 149 n 0) 150 n (zbo (bt 3 c))) 151 n (zbo ((bt 4 b) ∧ (bt 4 c)))) post := by
                  intro b69
                  refine zv_c1 ht rfl rfl (zv_c1 ht rfl rfl ?_)
                  exact (zv_sub (zz := zbo ((bt 6 c) ∧ ((bt 5 a) ∨ (bt 6 b)))) (zy := 1) (p := fun zz => zEv d 360 258 [.ref n] [.int zz, .int (zbo ((bt 5 c) ∧ ((bt 5 a) ∨ (bt 5 b)))), .ref n] (sI (sI (sI (sI (sI (sI S 145 n (q + 1)) 147 n (zbo ((bt 0 a) ∧ (bt 0 b) ∧ (bt 0 c)))) 148 n (zbo (((bt 0 a) ∧ (bt 1 b) ∧ (bt 1 c)) ∨ ((bt 1 a) ∧ (bt 0 b) ∧ (bt 0 c))))) 149 n 0) 150 n (zbo (bt 3 c))) 151 n (zbo ((bt 4 b) ∧ (bt 4 c)))) post) (zbo_pos ⟨b65, b69⟩) J72)
                refine zv_br ht rfl rfl rfl (fun b66 => ?_) (fun b66 => ?_)
                · replace b66 : bt 5 a := Classical.byContradiction (fun h => b66 ((zbo_eq0 : (zbo (bt 5 a)) = 0 ↔ ¬ (bt 5 a)).mpr h))
                  exact (J68 (Or.inl b66))
                · replace b66 : ¬ (bt 5 a) := (zbo_eq0 : (zbo (bt 5 a)) = 0 ↔ ¬ (bt 5 a)).mp (Classical.not_not.mp b66)
                  refine zv_c1 ht rfl rfl ?_
                  refine zv_g3 (q := y) ht rfl hF rfl rfl (zhas_of (htn) rfl) hpy ?_
                  refine zv_ei (x := zbo (bt 6 b)) ht rfl rfl (zhas_nc hcy (by decide)) hfy ?_
                  refine zv_br ht rfl rfl rfl (fun b67 => ?_) (fun b67 => ?_)
                  · replace b67 : ¬ (bt 6 b) := (zbo_eq0 : (zbo (bt 6 b)) = 0 ↔ ¬ (bt 6 b)).mp b67
                    exact (J70 (Or.inr ⟨b66, b67⟩))
                  · replace b67 : bt 6 b := Classical.byContradiction (fun h => b67 ((zbo_eq0 : (zbo (bt 6 b)) = 0 ↔ ¬ (bt 6 b)).mpr h))
                    exact (J68 (Or.inr b67))
            have J61 : ((¬ (bt 5 c)) ∨ ((¬ (bt 5 a)) ∧ (¬ (bt 5 b)))) → zEv d 360 222 [.ref n] [.ref n] (sI (sI (sI (sI (sI (sI S 145 n (q + 1)) 147 n (zbo ((bt 0 a) ∧ (bt 0 b) ∧ (bt 0 c)))) 148 n (zbo (((bt 0 a) ∧ (bt 1 b) ∧ (bt 1 c)) ∨ ((bt 1 a) ∧ (bt 0 b) ∧ (bt 0 c))))) 149 n 0) 150 n (zbo (bt 3 c))) 151 n (zbo ((bt 4 b) ∧ (bt 4 c)))) post := by
              intro b62
              refine zv_c1 ht rfl rfl ?_
              exact (zv_sub (zz := zbo ((bt 5 c) ∧ ((bt 5 a) ∨ (bt 5 b)))) (zy := 0) (p := fun zz => zEv d 360 223 [.ref n] [.int zz, .ref n] (sI (sI (sI (sI (sI (sI S 145 n (q + 1)) 147 n (zbo ((bt 0 a) ∧ (bt 0 b) ∧ (bt 0 c)))) 148 n (zbo (((bt 0 a) ∧ (bt 1 b) ∧ (bt 1 c)) ∨ ((bt 1 a) ∧ (bt 0 b) ∧ (bt 0 c))))) 149 n 0) 150 n (zbo (bt 3 c))) 151 n (zbo ((bt 4 b) ∧ (bt 4 c)))) post) (zbo_neg (b62.elim (fun y1 => (fun h => y1 h.1)) (fun y1 => (fun h => (fun h => h.elim y1.1 y1.2) h.2)))) J63)
            refine zv_br ht rfl rfl rfl (fun b56 => ?_) (fun b56 => ?_)
            · replace b56 : ¬ (bt 5 c) := (zbo_eq0 : (zbo (bt 5 c)) = 0 ↔ ¬ (bt 5 c)).mp b56
              exact (J61 (Or.inl b56))
            · replace b56 : bt 5 c := Classical.byContradiction (fun h => b56 ((zbo_eq0 : (zbo (bt 5 c)) = 0 ↔ ¬ (bt 5 c)).mpr h))
              refine zv_c1 ht rfl rfl ?_
              refine zv_g3 (q := x) ht rfl hF rfl rfl (zhas_of (htn) rfl) hpx ?_
              refine zv_ei (x := zbo (bt 5 a)) ht rfl rfl (zhas_nc hcx (by decide)) hsx ?_
              have J59 : ((bt 5 a) ∨ (bt 5 b)) → zEv d 360 218 [.ref n] [.ref n] (sI (sI (sI (sI (sI (sI S 145 n (q + 1)) 147 n (zbo ((bt 0 a) ∧ (bt 0 b) ∧ (bt 0 c)))) 148 n (zbo (((bt 0 a) ∧ (bt 1 b) ∧ (bt 1 c)) ∨ ((bt 1 a) ∧ (bt 0 b) ∧ (bt 0 c))))) 149 n 0) 150 n (zbo (bt 3 c))) 151 n (zbo ((bt 4 b) ∧ (bt 4 c)))) post := by
                intro b60
                refine zv_c1 ht rfl rfl (zv_c1 ht rfl rfl ?_)
                exact (zv_sub (zz := zbo ((bt 5 c) ∧ ((bt 5 a) ∨ (bt 5 b)))) (zy := 1) (p := fun zz => zEv d 360 223 [.ref n] [.int zz, .ref n] (sI (sI (sI (sI (sI (sI S 145 n (q + 1)) 147 n (zbo ((bt 0 a) ∧ (bt 0 b) ∧ (bt 0 c)))) 148 n (zbo (((bt 0 a) ∧ (bt 1 b) ∧ (bt 1 c)) ∨ ((bt 1 a) ∧ (bt 0 b) ∧ (bt 0 c))))) 149 n 0) 150 n (zbo (bt 3 c))) 151 n (zbo ((bt 4 b) ∧ (bt 4 c)))) post) (zbo_pos ⟨b56, b60⟩) J63)
              refine zv_br ht rfl rfl rfl (fun b57 => ?_) (fun b57 => ?_)
              · replace b57 : bt 5 a := Classical.byContradiction (fun h => b57 ((zbo_eq0 : (zbo (bt 5 a)) = 0 ↔ ¬ (bt 5 a)).mpr h))
                exact (J59 (Or.inl b57))
              · replace b57 : ¬ (bt 5 a) := (zbo_eq0 : (zbo (bt 5 a)) = 0 ↔ ¬ (bt 5 a)).mp (Classical.not_not.mp b57)
                refine zv_c1 ht rfl rfl ?_
                refine zv_g3 (q := y) ht rfl hF rfl rfl (zhas_of (htn) rfl) hpy ?_
                refine zv_ei (x := zbo (bt 5 b)) ht rfl rfl (zhas_nc hcy (by decide)) hsy ?_
                refine zv_br ht rfl rfl rfl (fun b58 => ?_) (fun b58 => ?_)
                · replace b58 : ¬ (bt 5 b) := (zbo_eq0 : (zbo (bt 5 b)) = 0 ↔ ¬ (bt 5 b)).mp b58
                  exact (J61 (Or.inr ⟨b57, b58⟩))
                · replace b58 : bt 5 b := Classical.byContradiction (fun h => b58 ((zbo_eq0 : (zbo (bt 5 b)) = 0 ↔ ¬ (bt 5 b)).mpr h))
                  exact (J59 (Or.inr b58))
          have J48 : ((¬ (bt 4 b)) ∨ (¬ (bt 4 c))) → zEv d 360 183 [.ref n] [.int (zbo (bt 3 c)), .int 0, .int (zbo (((bt 0 a) ∧ (bt 1 b) ∧ (bt 1 c)) ∨ ((bt 1 a) ∧ (bt 0 b) ∧ (bt 0 c)))), .int (zbo ((bt 0 a) ∧ (bt 0 b) ∧ (bt 0 c))), .int (q + 1), .ref n] S post := by
            intro b49
            refine zv_c1 ht rfl rfl ?_
            exact (zv_sub (zz := zbo ((bt 4 b) ∧ (bt 4 c))) (zy := 0) (p := fun zz => zEv d 360 184 [.ref n] [.int zz, .int (zbo (bt 3 c)), .int 0, .int (zbo (((bt 0 a) ∧ (bt 1 b) ∧ (bt 1 c)) ∨ ((bt 1 a) ∧ (bt 0 b) ∧ (bt 0 c)))), .int (zbo ((bt 0 a) ∧ (bt 0 b) ∧ (bt 0 c))), .int (q + 1), .ref n] S post) (zbo_neg (b49.elim (fun y1 => (fun h => y1 h.1)) (fun y1 => (fun h => y1 h.2)))) J50)
          refine zv_br ht rfl rfl rfl (fun b46 => ?_) (fun b46 => ?_)
          · replace b46 : ¬ (bt 4 b) := (zbo_eq0 : (zbo (bt 4 b)) = 0 ↔ ¬ (bt 4 b)).mp b46
            exact (J48 (Or.inl b46))
          · replace b46 : bt 4 b := Classical.byContradiction (fun h => b46 ((zbo_eq0 : (zbo (bt 4 b)) = 0 ↔ ¬ (bt 4 b)).mpr h))
            refine zv_c1 ht rfl rfl ?_
            refine zv_g3 (q := w) ht rfl hF rfl rfl (zhas_of (htn) rfl) hpw ?_
            refine zv_ei (x := zbo (bt 4 c)) ht rfl rfl (zhas_nc hcw (by decide)) huw ?_
            refine zv_br ht rfl rfl rfl (fun b47 => ?_) (fun b47 => ?_)
            · replace b47 : ¬ (bt 4 c) := (zbo_eq0 : (zbo (bt 4 c)) = 0 ↔ ¬ (bt 4 c)).mp b47
              exact (J48 (Or.inr b47))
            · replace b47 : bt 4 c := Classical.byContradiction (fun h => b47 ((zbo_eq0 : (zbo (bt 4 c)) = 0 ↔ ¬ (bt 4 c)).mpr h))
              refine zv_c1 ht rfl rfl (zv_c1 ht rfl rfl ?_)
              exact (zv_sub (zz := zbo ((bt 4 b) ∧ (bt 4 c))) (zy := 1) (p := fun zz => zEv d 360 184 [.ref n] [.int zz, .int (zbo (bt 3 c)), .int 0, .int (zbo (((bt 0 a) ∧ (bt 1 b) ∧ (bt 1 c)) ∨ ((bt 1 a) ∧ (bt 0 b) ∧ (bt 0 c)))), .int (zbo ((bt 0 a) ∧ (bt 0 b) ∧ (bt 0 c))), .int (q + 1), .ref n] S post) (zbo_pos ⟨b46, b47⟩) J50)
        have J42 : (((bt 0 a) ∧ (bt 1 b) ∧ (bt 1 c)) ∨ ((bt 1 a) ∧ (bt 0 b) ∧ (bt 0 c))) → zEv d 360 146 [.ref n] [.int (zbo ((bt 0 a) ∧ (bt 0 b) ∧ (bt 0 c))), .int (q + 1), .ref n] S post := by
          intro b43
          refine zv_c1 ht rfl rfl (zv_c1 ht rfl rfl ?_)
          exact (zv_sub (zz := zbo (((bt 0 a) ∧ (bt 1 b) ∧ (bt 1 c)) ∨ ((bt 1 a) ∧ (bt 0 b) ∧ (bt 0 c)))) (zy := 1) (p := fun zz => zEv d 360 151 [.ref n] [.int zz, .int (zbo ((bt 0 a) ∧ (bt 0 b) ∧ (bt 0 c))), .int (q + 1), .ref n] S post) (zbo_pos b43) J44)
        have J35 : ((¬ (bt 0 a)) ∨ (¬ (bt 1 b)) ∨ (¬ (bt 1 c))) → zEv d 360 116 [.ref n] [.int (zbo ((bt 0 a) ∧ (bt 0 b) ∧ (bt 0 c))), .int (q + 1), .ref n] S post := by
          intro b36
          refine zv_c1 ht rfl rfl ?_
          refine zv_g3 (q := x) ht rfl hF rfl rfl (zhas_of (htn) rfl) hpx ?_
          refine zv_ei (x := zbo (bt 1 a)) ht rfl rfl (zhas_nc hcx (by decide)) hox ?_
          have J40 : ((¬ (bt 1 a)) ∨ (¬ (bt 0 b)) ∨ (¬ (bt 0 c))) → zEv d 360 150 [.ref n] [.int (zbo ((bt 0 a) ∧ (bt 0 b) ∧ (bt 0 c))), .int (q + 1), .ref n] S post := by
            intro b41
            refine zv_c1 ht rfl rfl ?_
            exact (zv_sub (zz := zbo (((bt 0 a) ∧ (bt 1 b) ∧ (bt 1 c)) ∨ ((bt 1 a) ∧ (bt 0 b) ∧ (bt 0 c)))) (zy := 0) (p := fun zz => zEv d 360 151 [.ref n] [.int zz, .int (zbo ((bt 0 a) ∧ (bt 0 b) ∧ (bt 0 c))), .int (q + 1), .ref n] S post) (zbo_neg (b36.elim (fun y1 => (b41.elim (fun y2 => (fun h => h.elim (fun h => y1 h.1) (fun h => y2 h.1))) (fun y2 => (y2.elim (fun y3 => (fun h => h.elim (fun h => y1 h.1) (fun h => (fun h => y3 h.1) h.2))) (fun y3 => (fun h => h.elim (fun h => y1 h.1) (fun h => (fun h => y3 h.2) h.2))))))) (fun y1 => (b41.elim (fun y2 => (y1.elim (fun y3 => (fun h => h.elim (fun h => (fun h => y3 h.1) h.2) (fun h => y2 h.1))) (fun y3 => (fun h => h.elim (fun h => (fun h => y3 h.2) h.2) (fun h => y2 h.1))))) (fun y2 => (y1.elim (fun y3 => (y2.elim (fun y4 => (fun h => h.elim (fun h => (fun h => y3 h.1) h.2) (fun h => (fun h => y4 h.1) h.2))) (fun y4 => (fun h => h.elim (fun h => (fun h => y3 h.1) h.2) (fun h => (fun h => y4 h.2) h.2))))) (fun y3 => (y2.elim (fun y4 => (fun h => h.elim (fun h => (fun h => y3 h.2) h.2) (fun h => (fun h => y4 h.1) h.2))) (fun y4 => (fun h => h.elim (fun h => (fun h => y3 h.2) h.2) (fun h => (fun h => y4 h.2) h.2))))))))))) J44)
          refine zv_br ht rfl rfl rfl (fun b37 => ?_) (fun b37 => ?_)
          · replace b37 : ¬ (bt 1 a) := (zbo_eq0 : (zbo (bt 1 a)) = 0 ↔ ¬ (bt 1 a)).mp b37
            exact (J40 (Or.inl b37))
          · replace b37 : bt 1 a := Classical.byContradiction (fun h => b37 ((zbo_eq0 : (zbo (bt 1 a)) = 0 ↔ ¬ (bt 1 a)).mpr h))
            refine zv_c1 ht rfl rfl ?_
            refine zv_g3 (q := y) ht rfl hF rfl rfl (zhas_of (htn) rfl) hpy ?_
            refine zv_ei (x := zbo (bt 0 b)) ht rfl rfl (zhas_nc hcy (by decide)) hzy ?_
            refine zv_br ht rfl rfl rfl (fun b38 => ?_) (fun b38 => ?_)
            · replace b38 : ¬ (bt 0 b) := (zbo_eq0 : (zbo (bt 0 b)) = 0 ↔ ¬ (bt 0 b)).mp b38
              exact (J40 (Or.inr (Or.inl b38)))
            · replace b38 : bt 0 b := Classical.byContradiction (fun h => b38 ((zbo_eq0 : (zbo (bt 0 b)) = 0 ↔ ¬ (bt 0 b)).mpr h))
              refine zv_c1 ht rfl rfl ?_
              refine zv_g3 (q := w) ht rfl hF rfl rfl (zhas_of (htn) rfl) hpw ?_
              refine zv_ei (x := zbo (bt 0 c)) ht rfl rfl (zhas_nc hcw (by decide)) hzw ?_
              refine zv_br ht rfl rfl rfl (fun b39 => ?_) (fun b39 => ?_)
              · replace b39 : ¬ (bt 0 c) := (zbo_eq0 : (zbo (bt 0 c)) = 0 ↔ ¬ (bt 0 c)).mp b39
                exact (J40 (Or.inr (Or.inr b39)))
              · replace b39 : bt 0 c := Classical.byContradiction (fun h => b39 ((zbo_eq0 : (zbo (bt 0 c)) = 0 ↔ ¬ (bt 0 c)).mpr h))
                exact (J42 (Or.inr ⟨b37, ⟨b38, b39⟩⟩))
        refine zv_br ht rfl rfl rfl (fun b32 => ?_) (fun b32 => ?_)
        · replace b32 : ¬ (bt 0 a) := (zbo_eq0 : (zbo (bt 0 a)) = 0 ↔ ¬ (bt 0 a)).mp b32
          exact (J35 (Or.inl b32))
        · replace b32 : bt 0 a := Classical.byContradiction (fun h => b32 ((zbo_eq0 : (zbo (bt 0 a)) = 0 ↔ ¬ (bt 0 a)).mpr h))
          refine zv_c1 ht rfl rfl ?_
          refine zv_g3 (q := y) ht rfl hF rfl rfl (zhas_of (htn) rfl) hpy ?_
          refine zv_ei (x := zbo (bt 1 b)) ht rfl rfl (zhas_nc hcy (by decide)) hoy ?_
          refine zv_br ht rfl rfl rfl (fun b33 => ?_) (fun b33 => ?_)
          · replace b33 : ¬ (bt 1 b) := (zbo_eq0 : (zbo (bt 1 b)) = 0 ↔ ¬ (bt 1 b)).mp b33
            exact (J35 (Or.inr (Or.inl b33)))
          · replace b33 : bt 1 b := Classical.byContradiction (fun h => b33 ((zbo_eq0 : (zbo (bt 1 b)) = 0 ↔ ¬ (bt 1 b)).mpr h))
            refine zv_c1 ht rfl rfl ?_
            refine zv_g3 (q := w) ht rfl hF rfl rfl (zhas_of (htn) rfl) hpw ?_
            refine zv_ei (x := zbo (bt 1 c)) ht rfl rfl (zhas_nc hcw (by decide)) how ?_
            refine zv_br ht rfl rfl rfl (fun b34 => ?_) (fun b34 => ?_)
            · replace b34 : bt 1 c := Classical.byContradiction (fun h => b34 ((zbo_eq0 : (zbo (bt 1 c)) = 0 ↔ ¬ (bt 1 c)).mpr h))
              exact (J42 (Or.inl ⟨b32, ⟨b33, b34⟩⟩))
            · replace b34 : ¬ (bt 1 c) := (zbo_eq0 : (zbo (bt 1 c)) = 0 ↔ ¬ (bt 1 c)).mp (Classical.not_not.mp b34)
              exact (J35 (Or.inr (Or.inr b34)))
      have J28 : ((¬ (bt 0 a)) ∨ (¬ (bt 0 b)) ∨ (¬ (bt 0 c))) → zEv d 360 85 [.ref n] [.int (q + 1), .ref n] S post := by
        intro b29
        refine zv_c1 ht rfl rfl ?_
        exact (zv_sub (zz := zbo ((bt 0 a) ∧ (bt 0 b) ∧ (bt 0 c))) (zy := 0) (p := fun zz => zEv d 360 86 [.ref n] [.int zz, .int (q + 1), .ref n] S post) (zbo_neg (b29.elim (fun y1 => (fun h => y1 h.1)) (fun y1 => (y1.elim (fun y2 => (fun h => (fun h => y2 h.1) h.2)) (fun y2 => (fun h => (fun h => y2 h.2) h.2)))))) J30)
      refine zv_br ht rfl rfl rfl (fun b25 => ?_) (fun b25 => ?_)
      · replace b25 : ¬ (bt 0 a) := (zbo_eq0 : (zbo (bt 0 a)) = 0 ↔ ¬ (bt 0 a)).mp b25
        exact (J28 (Or.inl b25))
      · replace b25 : bt 0 a := Classical.byContradiction (fun h => b25 ((zbo_eq0 : (zbo (bt 0 a)) = 0 ↔ ¬ (bt 0 a)).mpr h))
        refine zv_c1 ht rfl rfl ?_
        refine zv_g3 (q := y) ht rfl hF rfl rfl (zhas_of (htn) rfl) hpy ?_
        refine zv_ei (x := zbo (bt 0 b)) ht rfl rfl (zhas_nc hcy (by decide)) hzy ?_
        refine zv_br ht rfl rfl rfl (fun b26 => ?_) (fun b26 => ?_)
        · replace b26 : ¬ (bt 0 b) := (zbo_eq0 : (zbo (bt 0 b)) = 0 ↔ ¬ (bt 0 b)).mp b26
          exact (J28 (Or.inr (Or.inl b26)))
        · replace b26 : bt 0 b := Classical.byContradiction (fun h => b26 ((zbo_eq0 : (zbo (bt 0 b)) = 0 ↔ ¬ (bt 0 b)).mpr h))
          refine zv_c1 ht rfl rfl ?_
          refine zv_g3 (q := w) ht rfl hF rfl rfl (zhas_of (htn) rfl) hpw ?_
          refine zv_ei (x := zbo (bt 0 c)) ht rfl rfl (zhas_nc hcw (by decide)) hzw ?_
          refine zv_br ht rfl rfl rfl (fun b27 => ?_) (fun b27 => ?_)
          · replace b27 : ¬ (bt 0 c) := (zbo_eq0 : (zbo (bt 0 c)) = 0 ↔ ¬ (bt 0 c)).mp b27
            exact (J28 (Or.inr (Or.inr b27)))
          · replace b27 : bt 0 c := Classical.byContradiction (fun h => b27 ((zbo_eq0 : (zbo (bt 0 c)) = 0 ↔ ¬ (bt 0 c)).mpr h))
            refine zv_c1 ht rfl rfl (zv_c1 ht rfl rfl ?_)
            exact (zv_sub (zz := zbo ((bt 0 a) ∧ (bt 0 b) ∧ (bt 0 c))) (zy := 1) (p := fun zz => zEv d 360 86 [.ref n] [.int zz, .int (q + 1), .ref n] S post) (zbo_pos ⟨b25, ⟨b26, b27⟩⟩) J30)

theorem tj_0 {d : Nat} {S : zS} (hF : zFin true S) (hd : 1 ≤ d) (n : Nat)  (hn0 : 1639 ≤ n) (hn : n < gN S) (htn : ztyp S n = #C.B) (hi : gI S 173 n = Int32.ofNat 0) (hm0 : gI S 156 n = zbo False) (ht0 : gI S 146 n = 0) {post : Outcome × zS → Prop} (h1 : post (.returned none, sI (sI (sI (sI (sI (sI (sI (sI (sI (sI S 145 n 1) 147 n 1) 148 n 0) 149 n 0) 150 n 1) 151 n 1) 152 n 1) 153 n 0) 154 n 1) 155 n 1)) : zCall d 333 [.ref n] S post := by
  have ht : ztab 333 = ztb333 := rfl
  show zEv d 333 0 [.ref n] [] S post
  refine zv_c1 ht rfl rfl (zv_c1 ht rfl rfl (zv_c1 ht rfl rfl (zv_c1 ht rfl rfl (zv_c1 ht rfl rfl (zv_c1 ht rfl rfl ?_)))))
  refine zv_ei (x := 0) ht rfl rfl (zhas_of (htn) rfl) hi ?_
  refine zv_br ht rfl rfl rfl (fun h => absurd h (by decide)) (fun _ => ?_)
  refine zv_c1 ht rfl rfl (zv_c1 ht rfl rfl (zv_c1 ht rfl rfl ?_))
  have C2 : ∀ (pst1 : Outcome × zS → Prop), (pst1 (.returned none, sI (sI (sI (sI (sI (sI S 145 n 1) 147 n 1) 148 n 0) 149 n 0) 150 n 1) 151 n 1)) → zCall (d - 1) 284 [.ref n, .int 1, .int 1, .int 0, .int 0, .int 1, .int 1] S pst1 := by
    intro pst1 k4
    have ht3 : ztab 284 = ztb284 := rfl
    show zEv (d - 1) 284 0 [.ref n, .int 1, .int 1, .int 0, .int 0, .int 1, .int 1] [] S pst1
    refine zv_c1 ht3 rfl rfl (zv_c1 ht3 rfl rfl ?_)
    refine zv_ci (S' := sI S 145 n 1) ht3 rfl rfl ⟨(zhas_of (htn) rfl), (show n < gN S from by omega)⟩ ?_
    refine zv_c1 ht3 rfl rfl (zv_c1 ht3 rfl rfl ?_)
    refine zv_ci (S' := sI (sI S 145 n 1) 147 n 1) ht3 rfl rfl ⟨⟨(zhas_of (htn) rfl), (show n < gN S from by omega)⟩, (by decide)⟩ ?_
    refine zv_c1 ht3 rfl rfl (zv_c1 ht3 rfl rfl ?_)
    refine zv_ci (S' := sI (sI (sI S 145 n 1) 147 n 1) 148 n 0) ht3 rfl rfl ⟨⟨(zhas_of (htn) rfl), (show n < gN S from by omega)⟩, (by decide)⟩ ?_
    refine zv_c1 ht3 rfl rfl (zv_c1 ht3 rfl rfl ?_)
    refine zv_ci (S' := sI (sI (sI (sI S 145 n 1) 147 n 1) 148 n 0) 149 n 0) ht3 rfl rfl ⟨⟨(zhas_of (htn) rfl), (show n < gN S from by omega)⟩, (by decide)⟩ ?_
    refine zv_c1 ht3 rfl rfl (zv_c1 ht3 rfl rfl ?_)
    refine zv_ci (S' := sI (sI (sI (sI (sI S 145 n 1) 147 n 1) 148 n 0) 149 n 0) 150 n 1) ht3 rfl rfl ⟨⟨(zhas_of (htn) rfl), (show n < gN S from by omega)⟩, (by decide)⟩ ?_
    refine zv_c1 ht3 rfl rfl (zv_c1 ht3 rfl rfl ?_)
    refine zv_ci (S' := sI (sI (sI (sI (sI (sI S 145 n 1) 147 n 1) 148 n 0) 149 n 0) 150 n 1) 151 n 1) ht3 rfl rfl ⟨⟨(zhas_of (htn) rfl), (show n < gN S from by omega)⟩, (by decide)⟩ ?_
    exact zv_rt ht3 rfl rfl rfl rfl k4
  refine zv_cl ht rfl rfl rfl (zv_tgv (htn) rfl) (by omega) (Nat.le_of_ble_eq_true rfl) (C2 _ ?_)
  show zEv d 333 21 [.ref n] [] (sI (sI (sI (sI (sI (sI S 145 n 1) 147 n 1) 148 n 0) 149 n 0) 150 n 1) 151 n 1) post
  refine zv_c1 ht rfl rfl (zv_c1 ht rfl rfl ?_)
  refine zv_ei (x := 0) ht rfl rfl (zhas_of (htn) rfl) hi ?_
  refine zv_br ht rfl rfl rfl (fun h => absurd h (by decide)) (fun _ => ?_)
  refine zv_c1 ht rfl rfl (zv_c1 ht rfl rfl (zv_c1 ht rfl rfl ?_))
  refine zv_ei (x := 0) ht rfl rfl (zhas_of (htn) rfl) hi ?_
  refine zv_c1 ht rfl rfl ?_
  refine zv_ei (x := 0) ht rfl rfl (zhas_of (htn) rfl) hi ?_
  refine zv_br ht rfl rfl rfl (fun h => absurd h (by decide)) (fun _ => ?_)
  refine zv_c1 ht rfl rfl (zv_c1 ht rfl rfl (zv_c1 ht rfl rfl ?_))
  have C6 : ∀ (pst5 : Outcome × zS → Prop), (pst5 (.returned none, sI (sI (sI (sI (sI (sI (sI (sI (sI (sI S 145 n 1) 147 n 1) 148 n 0) 149 n 0) 150 n 1) 151 n 1) 152 n 1) 153 n 0) 154 n 1) 155 n 1)) → zCall (d - 1) 285 [.ref n, .int 1, .int 0, .int 1, .int 1] (sI (sI (sI (sI (sI (sI S 145 n 1) 147 n 1) 148 n 0) 149 n 0) 150 n 1) 151 n 1) pst5 := by
    intro pst5 k8
    have ht7 : ztab 285 = ztb285 := rfl
    show zEv (d - 1) 285 0 [.ref n, .int 1, .int 0, .int 1, .int 1] [] (sI (sI (sI (sI (sI (sI S 145 n 1) 147 n 1) 148 n 0) 149 n 0) 150 n 1) 151 n 1) pst5
    refine zv_c1 ht7 rfl rfl (zv_c1 ht7 rfl rfl ?_)
    refine zv_ci (S' := sI (sI (sI (sI (sI (sI (sI S 145 n 1) 147 n 1) 148 n 0) 149 n 0) 150 n 1) 151 n 1) 152 n 1) ht7 rfl rfl ⟨⟨(zhas_of (htn) rfl), (show n < gN S from by omega)⟩, (by decide)⟩ ?_
    refine zv_c1 ht7 rfl rfl (zv_c1 ht7 rfl rfl ?_)
    refine zv_ci (S' := sI (sI (sI (sI (sI (sI (sI (sI S 145 n 1) 147 n 1) 148 n 0) 149 n 0) 150 n 1) 151 n 1) 152 n 1) 153 n 0) ht7 rfl rfl ⟨⟨(zhas_of (htn) rfl), (show n < gN S from by omega)⟩, (by decide)⟩ ?_
    refine zv_c1 ht7 rfl rfl (zv_c1 ht7 rfl rfl ?_)
    refine zv_ci (S' := sI (sI (sI (sI (sI (sI (sI (sI (sI S 145 n 1) 147 n 1) 148 n 0) 149 n 0) 150 n 1) 151 n 1) 152 n 1) 153 n 0) 154 n 1) ht7 rfl rfl ⟨⟨(zhas_of (htn) rfl), (show n < gN S from by omega)⟩, (by decide)⟩ ?_
    refine zv_c1 ht7 rfl rfl (zv_c1 ht7 rfl rfl ?_)
    refine zv_ci (S' := sI (sI (sI (sI (sI (sI (sI (sI (sI (sI S 145 n 1) 147 n 1) 148 n 0) 149 n 0) 150 n 1) 151 n 1) 152 n 1) 153 n 0) 154 n 1) 155 n 1) ht7 rfl rfl ⟨⟨(zhas_of (htn) rfl), (show n < gN S from by omega)⟩, (by decide)⟩ ?_
    exact zv_rt ht7 rfl rfl rfl rfl k8
  refine zv_cl ht rfl rfl rfl (zv_tgv (htn) rfl) (by omega) (Nat.le_of_ble_eq_true rfl) (C6 _ ?_)
  show zEv d 333 54 [.ref n] [] (sI (sI (sI (sI (sI (sI (sI (sI (sI (sI S 145 n 1) 147 n 1) 148 n 0) 149 n 0) 150 n 1) 151 n 1) 152 n 1) 153 n 0) 154 n 1) 155 n 1) post
  exact zv_rt ht rfl rfl rfl rfl h1

theorem tj_1 {d : Nat} {S : zS} (hF : zFin true S) (hd : 1 ≤ d) (n : Nat)  (hn0 : 1639 ≤ n) (hn : n < gN S) (htn : ztyp S n = #C.B) (hi : gI S 173 n = Int32.ofNat 1) (hm0 : gI S 156 n = zbo False) (ht0 : gI S 146 n = 0) {post : Outcome × zS → Prop} (h1 : post (.returned none, sI (sI (sI (sI (sI (sI (sI (sI (sI (sI S 145 n 1) 147 n 1) 148 n 0) 149 n 0) 150 n 0) 151 n 1) 152 n 0) 153 n 1) 154 n 0) 155 n 1)) : zCall d 333 [.ref n] S post := by
  have ht : ztab 333 = ztb333 := rfl
  show zEv d 333 0 [.ref n] [] S post
  refine zv_c1 ht rfl rfl (zv_c1 ht rfl rfl (zv_c1 ht rfl rfl (zv_c1 ht rfl rfl (zv_c1 ht rfl rfl (zv_c1 ht rfl rfl ?_)))))
  refine zv_ei (x := 1) ht rfl rfl (zhas_of (htn) rfl) hi ?_
  refine zv_br ht rfl rfl rfl (fun _ => ?_) (fun h => absurd (by decide) h)
  refine zv_c1 ht rfl rfl (zv_c1 ht rfl rfl ?_)
  have C2 : ∀ (pst1 : Outcome × zS → Prop), (pst1 (.returned none, sI (sI (sI (sI (sI (sI S 145 n 1) 147 n 1) 148 n 0) 149 n 0) 150 n 0) 151 n 1)) → zCall (d - 1) 284 [.ref n, .int 1, .int 1, .int 0, .int 0, .int 0, .int 1] S pst1 := by
    intro pst1 k4
    have ht3 : ztab 284 = ztb284 := rfl
    show zEv (d - 1) 284 0 [.ref n, .int 1, .int 1, .int 0, .int 0, .int 0, .int 1] [] S pst1
    refine zv_c1 ht3 rfl rfl (zv_c1 ht3 rfl rfl ?_)
    refine zv_ci (S' := sI S 145 n 1) ht3 rfl rfl ⟨(zhas_of (htn) rfl), (show n < gN S from by omega)⟩ ?_
    refine zv_c1 ht3 rfl rfl (zv_c1 ht3 rfl rfl ?_)
    refine zv_ci (S' := sI (sI S 145 n 1) 147 n 1) ht3 rfl rfl ⟨⟨(zhas_of (htn) rfl), (show n < gN S from by omega)⟩, (by decide)⟩ ?_
    refine zv_c1 ht3 rfl rfl (zv_c1 ht3 rfl rfl ?_)
    refine zv_ci (S' := sI (sI (sI S 145 n 1) 147 n 1) 148 n 0) ht3 rfl rfl ⟨⟨(zhas_of (htn) rfl), (show n < gN S from by omega)⟩, (by decide)⟩ ?_
    refine zv_c1 ht3 rfl rfl (zv_c1 ht3 rfl rfl ?_)
    refine zv_ci (S' := sI (sI (sI (sI S 145 n 1) 147 n 1) 148 n 0) 149 n 0) ht3 rfl rfl ⟨⟨(zhas_of (htn) rfl), (show n < gN S from by omega)⟩, (by decide)⟩ ?_
    refine zv_c1 ht3 rfl rfl (zv_c1 ht3 rfl rfl ?_)
    refine zv_ci (S' := sI (sI (sI (sI (sI S 145 n 1) 147 n 1) 148 n 0) 149 n 0) 150 n 0) ht3 rfl rfl ⟨⟨(zhas_of (htn) rfl), (show n < gN S from by omega)⟩, (by decide)⟩ ?_
    refine zv_c1 ht3 rfl rfl (zv_c1 ht3 rfl rfl ?_)
    refine zv_ci (S' := sI (sI (sI (sI (sI (sI S 145 n 1) 147 n 1) 148 n 0) 149 n 0) 150 n 0) 151 n 1) ht3 rfl rfl ⟨⟨(zhas_of (htn) rfl), (show n < gN S from by omega)⟩, (by decide)⟩ ?_
    exact zv_rt ht3 rfl rfl rfl rfl k4
  refine zv_cl ht rfl rfl rfl (zv_tgv (htn) rfl) (by omega) (Nat.le_of_ble_eq_true rfl) (C2 _ ?_)
  show zEv d 333 21 [.ref n] [] (sI (sI (sI (sI (sI (sI S 145 n 1) 147 n 1) 148 n 0) 149 n 0) 150 n 0) 151 n 1) post
  refine zv_c1 ht rfl rfl (zv_c1 ht rfl rfl ?_)
  refine zv_ei (x := 1) ht rfl rfl (zhas_of (htn) rfl) hi ?_
  refine zv_br ht rfl rfl rfl (fun _ => ?_) (fun h => absurd (by decide) h)
  refine zv_c1 ht rfl rfl (zv_c1 ht rfl rfl ?_)
  refine zv_ei (x := 1) ht rfl rfl (zhas_of (htn) rfl) hi ?_
  refine zv_c1 ht rfl rfl ?_
  refine zv_ei (x := 1) ht rfl rfl (zhas_of (htn) rfl) hi ?_
  refine zv_br ht rfl rfl rfl (fun _ => ?_) (fun h => absurd (by decide) h)
  refine zv_c1 ht rfl rfl (zv_c1 ht rfl rfl ?_)
  have C6 : ∀ (pst5 : Outcome × zS → Prop), (pst5 (.returned none, sI (sI (sI (sI (sI (sI (sI (sI (sI (sI S 145 n 1) 147 n 1) 148 n 0) 149 n 0) 150 n 0) 151 n 1) 152 n 0) 153 n 1) 154 n 0) 155 n 1)) → zCall (d - 1) 285 [.ref n, .int 0, .int 1, .int 0, .int 1] (sI (sI (sI (sI (sI (sI S 145 n 1) 147 n 1) 148 n 0) 149 n 0) 150 n 0) 151 n 1) pst5 := by
    intro pst5 k8
    have ht7 : ztab 285 = ztb285 := rfl
    show zEv (d - 1) 285 0 [.ref n, .int 0, .int 1, .int 0, .int 1] [] (sI (sI (sI (sI (sI (sI S 145 n 1) 147 n 1) 148 n 0) 149 n 0) 150 n 0) 151 n 1) pst5
    refine zv_c1 ht7 rfl rfl (zv_c1 ht7 rfl rfl ?_)
    refine zv_ci (S' := sI (sI (sI (sI (sI (sI (sI S 145 n 1) 147 n 1) 148 n 0) 149 n 0) 150 n 0) 151 n 1) 152 n 0) ht7 rfl rfl ⟨⟨(zhas_of (htn) rfl), (show n < gN S from by omega)⟩, (by decide)⟩ ?_
    refine zv_c1 ht7 rfl rfl (zv_c1 ht7 rfl rfl ?_)
    refine zv_ci (S' := sI (sI (sI (sI (sI (sI (sI (sI S 145 n 1) 147 n 1) 148 n 0) 149 n 0) 150 n 0) 151 n 1) 152 n 0) 153 n 1) ht7 rfl rfl ⟨⟨(zhas_of (htn) rfl), (show n < gN S from by omega)⟩, (by decide)⟩ ?_
    refine zv_c1 ht7 rfl rfl (zv_c1 ht7 rfl rfl ?_)
    refine zv_ci (S' := sI (sI (sI (sI (sI (sI (sI (sI (sI S 145 n 1) 147 n 1) 148 n 0) 149 n 0) 150 n 0) 151 n 1) 152 n 0) 153 n 1) 154 n 0) ht7 rfl rfl ⟨⟨(zhas_of (htn) rfl), (show n < gN S from by omega)⟩, (by decide)⟩ ?_
    refine zv_c1 ht7 rfl rfl (zv_c1 ht7 rfl rfl ?_)
    refine zv_ci (S' := sI (sI (sI (sI (sI (sI (sI (sI (sI (sI S 145 n 1) 147 n 1) 148 n 0) 149 n 0) 150 n 0) 151 n 1) 152 n 0) 153 n 1) 154 n 0) 155 n 1) ht7 rfl rfl ⟨⟨(zhas_of (htn) rfl), (show n < gN S from by omega)⟩, (by decide)⟩ ?_
    exact zv_rt ht7 rfl rfl rfl rfl k8
  refine zv_cl ht rfl rfl rfl (zv_tgv (htn) rfl) (by omega) (Nat.le_of_ble_eq_true rfl) (C6 _ ?_)
  show zEv d 333 54 [.ref n] [] (sI (sI (sI (sI (sI (sI (sI (sI (sI (sI S 145 n 1) 147 n 1) 148 n 0) 149 n 0) 150 n 0) 151 n 1) 152 n 0) 153 n 1) 154 n 0) 155 n 1) post
  exact zv_rt ht rfl rfl rfl rfl h1

theorem kj_2 {d : Nat} {S : zS} (hF : zFin true S) (hd : 1 ≤ d) (n : Nat)  (hn0 : 1639 ≤ n) (hn : n < gN S) (htn : ztyp S n = #C.K) (hi : gI S 165 n = Int32.ofNat 0) (hm0 : gI S 156 n = zbo False) (ht0 : gI S 146 n = 0) {post : Outcome × zS → Prop} (h1 : post (.returned none, sI (sI (sI (sI (sI (sI (sI (sI (sI (sI S 145 n 3) 147 n 0) 148 n 1) 149 n 1) 150 n 1) 151 n 1) 152 n 1) 153 n 0) 154 n 1) 155 n 1)) : zCall d 311 [.ref n] S post := by
  have ht : ztab 311 = ztb311 := rfl
  show zEv d 311 0 [.ref n] [] S post
  refine zv_c1 ht rfl rfl (zv_c1 ht rfl rfl (zv_c1 ht rfl rfl (zv_c1 ht rfl rfl ?_)))
  refine zv_ei (x := 0) ht rfl rfl (zhas_of (htn) rfl) hi ?_
  refine zv_br ht rfl rfl rfl (fun h => absurd h (by decide)) (fun _ => ?_)
  refine zv_c1 ht rfl rfl (zv_c1 ht rfl rfl (zv_c1 ht rfl rfl (zv_c1 ht rfl rfl (zv_c1 ht rfl rfl ?_))))
  have C2 : ∀ (pst1 : Outcome × zS → Prop), (pst1 (.returned none, sI (sI (sI (sI (sI (sI S 145 n 3) 147 n 0) 148 n 1) 149 n 1) 150 n 1) 151 n 1)) → zCall (d - 1) 284 [.ref n, .int 3, .int 0, .int 1, .int 1, .int 1, .int 1] S pst1 := by
    intro pst1 k4
    have ht3 : ztab 284 = ztb284 := rfl
    show zEv (d - 1) 284 0 [.ref n, .int 3, .int 0, .int 1, .int 1, .int 1, .int 1] [] S pst1
    refine zv_c1 ht3 rfl rfl (zv_c1 ht3 rfl rfl ?_)
    refine zv_ci (S' := sI S 145 n 3) ht3 rfl rfl ⟨(zhas_of (htn) rfl), (show n < gN S from by omega)⟩ ?_
    refine zv_c1 ht3 rfl rfl (zv_c1 ht3 rfl rfl ?_)
    refine zv_ci (S' := sI (sI S 145 n 3) 147 n 0) ht3 rfl rfl ⟨⟨(zhas_of (htn) rfl), (show n < gN S from by omega)⟩, (by decide)⟩ ?_
    refine zv_c1 ht3 rfl rfl (zv_c1 ht3 rfl rfl ?_)
    refine zv_ci (S' := sI (sI (sI S 145 n 3) 147 n 0) 148 n 1) ht3 rfl rfl ⟨⟨(zhas_of (htn) rfl), (show n < gN S from by omega)⟩, (by decide)⟩ ?_
    refine zv_c1 ht3 rfl rfl (zv_c1 ht3 rfl rfl ?_)
    refine zv_ci (S' := sI (sI (sI (sI S 145 n 3) 147 n 0) 148 n 1) 149 n 1) ht3 rfl rfl ⟨⟨(zhas_of (htn) rfl), (show n < gN S from by omega)⟩, (by decide)⟩ ?_
    refine zv_c1 ht3 rfl rfl (zv_c1 ht3 rfl rfl ?_)
    refine zv_ci (S' := sI (sI (sI (sI (sI S 145 n 3) 147 n 0) 148 n 1) 149 n 1) 150 n 1) ht3 rfl rfl ⟨⟨(zhas_of (htn) rfl), (show n < gN S from by omega)⟩, (by decide)⟩ ?_
    refine zv_c1 ht3 rfl rfl (zv_c1 ht3 rfl rfl ?_)
    refine zv_ci (S' := sI (sI (sI (sI (sI (sI S 145 n 3) 147 n 0) 148 n 1) 149 n 1) 150 n 1) 151 n 1) ht3 rfl rfl ⟨⟨(zhas_of (htn) rfl), (show n < gN S from by omega)⟩, (by decide)⟩ ?_
    exact zv_rt ht3 rfl rfl rfl rfl k4
  refine zv_cl ht rfl rfl rfl (zv_tgv (htn) rfl) (by omega) (Nat.le_of_ble_eq_true rfl) (C2 _ ?_)
  show zEv d 311 21 [.ref n] [] (sI (sI (sI (sI (sI (sI S 145 n 3) 147 n 0) 148 n 1) 149 n 1) 150 n 1) 151 n 1) post
  refine zv_c1 ht rfl rfl (zv_c1 ht rfl rfl (zv_c1 ht rfl rfl (zv_c1 ht rfl rfl (zv_c1 ht rfl rfl ?_))))
  have C6 : ∀ (pst5 : Outcome × zS → Prop), (pst5 (.returned none, sI (sI (sI (sI (sI (sI (sI (sI (sI (sI S 145 n 3) 147 n 0) 148 n 1) 149 n 1) 150 n 1) 151 n 1) 152 n 1) 153 n 0) 154 n 1) 155 n 1)) → zCall (d - 1) 285 [.ref n, .int 1, .int 0, .int 1, .int 1] (sI (sI (sI (sI (sI (sI S 145 n 3) 147 n 0) 148 n 1) 149 n 1) 150 n 1) 151 n 1) pst5 := by
    intro pst5 k8
    have ht7 : ztab 285 = ztb285 := rfl
    show zEv (d - 1) 285 0 [.ref n, .int 1, .int 0, .int 1, .int 1] [] (sI (sI (sI (sI (sI (sI S 145 n 3) 147 n 0) 148 n 1) 149 n 1) 150 n 1) 151 n 1) pst5
    refine zv_c1 ht7 rfl rfl (zv_c1 ht7 rfl rfl ?_)
    refine zv_ci (S' := sI (sI (sI (sI (sI (sI (sI S 145 n 3) 147 n 0) 148 n 1) 149 n 1) 150 n 1) 151 n 1) 152 n 1) ht7 rfl rfl ⟨⟨(zhas_of (htn) rfl), (show n < gN S from by omega)⟩, (by decide)⟩ ?_
    refine zv_c1 ht7 rfl rfl (zv_c1 ht7 rfl rfl ?_)
    refine zv_ci (S' := sI (sI (sI (sI (sI (sI (sI (sI S 145 n 3) 147 n 0) 148 n 1) 149 n 1) 150 n 1) 151 n 1) 152 n 1) 153 n 0) ht7 rfl rfl ⟨⟨(zhas_of (htn) rfl), (show n < gN S from by omega)⟩, (by decide)⟩ ?_
    refine zv_c1 ht7 rfl rfl (zv_c1 ht7 rfl rfl ?_)
    refine zv_ci (S' := sI (sI (sI (sI (sI (sI (sI (sI (sI S 145 n 3) 147 n 0) 148 n 1) 149 n 1) 150 n 1) 151 n 1) 152 n 1) 153 n 0) 154 n 1) ht7 rfl rfl ⟨⟨(zhas_of (htn) rfl), (show n < gN S from by omega)⟩, (by decide)⟩ ?_
    refine zv_c1 ht7 rfl rfl (zv_c1 ht7 rfl rfl ?_)
    refine zv_ci (S' := sI (sI (sI (sI (sI (sI (sI (sI (sI (sI S 145 n 3) 147 n 0) 148 n 1) 149 n 1) 150 n 1) 151 n 1) 152 n 1) 153 n 0) 154 n 1) 155 n 1) ht7 rfl rfl ⟨⟨(zhas_of (htn) rfl), (show n < gN S from by omega)⟩, (by decide)⟩ ?_
    exact zv_rt ht7 rfl rfl rfl rfl k8
  refine zv_cl ht rfl rfl rfl (zv_tgv (htn) rfl) (by omega) (Nat.le_of_ble_eq_true rfl) (C6 _ ?_)
  show zEv d 311 29 [.ref n] [] (sI (sI (sI (sI (sI (sI (sI (sI (sI (sI S 145 n 3) 147 n 0) 148 n 1) 149 n 1) 150 n 1) 151 n 1) 152 n 1) 153 n 0) 154 n 1) 155 n 1) post
  exact zv_rt ht rfl rfl rfl rfl h1

theorem kj_3 {d : Nat} {S : zS} (hF : zFin true S) (hd : 1 ≤ d) (n : Nat)  (hn0 : 1639 ≤ n) (hn : n < gN S) (htn : ztyp S n = #C.K) (hi : gI S 165 n = Int32.ofNat 1) (hm0 : gI S 156 n = zbo False) (ht0 : gI S 146 n = 0) {post : Outcome × zS → Prop} (h1 : post (.returned none, sI (sI (sI (sI (sI (sI (sI (sI (sI (sI S 145 n 3) 147 n 0) 148 n 0) 149 n 1) 150 n 1) 151 n 1) 152 n 1) 153 n 0) 154 n 1) 155 n 1)) : zCall d 311 [.ref n] S post := by
  have ht : ztab 311 = ztb311 := rfl
  show zEv d 311 0 [.ref n] [] S post
  refine zv_c1 ht rfl rfl (zv_c1 ht rfl rfl (zv_c1 ht rfl rfl (zv_c1 ht rfl rfl ?_)))
  refine zv_ei (x := 1) ht rfl rfl (zhas_of (htn) rfl) hi ?_
  refine zv_br ht rfl rfl rfl (fun _ => ?_) (fun h => absurd (by decide) h)
  refine zv_c1 ht rfl rfl (zv_c1 ht rfl rfl (zv_c1 ht rfl rfl (zv_c1 ht rfl rfl ?_)))
  have C2 : ∀ (pst1 : Outcome × zS → Prop), (pst1 (.returned none, sI (sI (sI (sI (sI (sI S 145 n 3) 147 n 0) 148 n 0) 149 n 1) 150 n 1) 151 n 1)) → zCall (d - 1) 284 [.ref n, .int 3, .int 0, .int 0, .int 1, .int 1, .int 1] S pst1 := by
    intro pst1 k4
    have ht3 : ztab 284 = ztb284 := rfl
    show zEv (d - 1) 284 0 [.ref n, .int 3, .int 0, .int 0, .int 1, .int 1, .int 1] [] S pst1
    refine zv_c1 ht3 rfl rfl (zv_c1 ht3 rfl rfl ?_)
    refine zv_ci (S' := sI S 145 n 3) ht3 rfl rfl ⟨(zhas_of (htn) rfl), (show n < gN S from by omega)⟩ ?_
    refine zv_c1 ht3 rfl rfl (zv_c1 ht3 rfl rfl ?_)
    refine zv_ci (S' := sI (sI S 145 n 3) 147 n 0) ht3 rfl rfl ⟨⟨(zhas_of (htn) rfl), (show n < gN S from by omega)⟩, (by decide)⟩ ?_
    refine zv_c1 ht3 rfl rfl (zv_c1 ht3 rfl rfl ?_)
    refine zv_ci (S' := sI (sI (sI S 145 n 3) 147 n 0) 148 n 0) ht3 rfl rfl ⟨⟨(zhas_of (htn) rfl), (show n < gN S from by omega)⟩, (by decide)⟩ ?_
    refine zv_c1 ht3 rfl rfl (zv_c1 ht3 rfl rfl ?_)
    refine zv_ci (S' := sI (sI (sI (sI S 145 n 3) 147 n 0) 148 n 0) 149 n 1) ht3 rfl rfl ⟨⟨(zhas_of (htn) rfl), (show n < gN S from by omega)⟩, (by decide)⟩ ?_
    refine zv_c1 ht3 rfl rfl (zv_c1 ht3 rfl rfl ?_)
    refine zv_ci (S' := sI (sI (sI (sI (sI S 145 n 3) 147 n 0) 148 n 0) 149 n 1) 150 n 1) ht3 rfl rfl ⟨⟨(zhas_of (htn) rfl), (show n < gN S from by omega)⟩, (by decide)⟩ ?_
    refine zv_c1 ht3 rfl rfl (zv_c1 ht3 rfl rfl ?_)
    refine zv_ci (S' := sI (sI (sI (sI (sI (sI S 145 n 3) 147 n 0) 148 n 0) 149 n 1) 150 n 1) 151 n 1) ht3 rfl rfl ⟨⟨(zhas_of (htn) rfl), (show n < gN S from by omega)⟩, (by decide)⟩ ?_
    exact zv_rt ht3 rfl rfl rfl rfl k4
  refine zv_cl ht rfl rfl rfl (zv_tgv (htn) rfl) (by omega) (Nat.le_of_ble_eq_true rfl) (C2 _ ?_)
  show zEv d 311 21 [.ref n] [] (sI (sI (sI (sI (sI (sI S 145 n 3) 147 n 0) 148 n 0) 149 n 1) 150 n 1) 151 n 1) post
  refine zv_c1 ht rfl rfl (zv_c1 ht rfl rfl (zv_c1 ht rfl rfl (zv_c1 ht rfl rfl (zv_c1 ht rfl rfl ?_))))
  have C6 : ∀ (pst5 : Outcome × zS → Prop), (pst5 (.returned none, sI (sI (sI (sI (sI (sI (sI (sI (sI (sI S 145 n 3) 147 n 0) 148 n 0) 149 n 1) 150 n 1) 151 n 1) 152 n 1) 153 n 0) 154 n 1) 155 n 1)) → zCall (d - 1) 285 [.ref n, .int 1, .int 0, .int 1, .int 1] (sI (sI (sI (sI (sI (sI S 145 n 3) 147 n 0) 148 n 0) 149 n 1) 150 n 1) 151 n 1) pst5 := by
    intro pst5 k8
    have ht7 : ztab 285 = ztb285 := rfl
    show zEv (d - 1) 285 0 [.ref n, .int 1, .int 0, .int 1, .int 1] [] (sI (sI (sI (sI (sI (sI S 145 n 3) 147 n 0) 148 n 0) 149 n 1) 150 n 1) 151 n 1) pst5
    refine zv_c1 ht7 rfl rfl (zv_c1 ht7 rfl rfl ?_)
    refine zv_ci (S' := sI (sI (sI (sI (sI (sI (sI S 145 n 3) 147 n 0) 148 n 0) 149 n 1) 150 n 1) 151 n 1) 152 n 1) ht7 rfl rfl ⟨⟨(zhas_of (htn) rfl), (show n < gN S from by omega)⟩, (by decide)⟩ ?_
    refine zv_c1 ht7 rfl rfl (zv_c1 ht7 rfl rfl ?_)
    refine zv_ci (S' := sI (sI (sI (sI (sI (sI (sI (sI S 145 n 3) 147 n 0) 148 n 0) 149 n 1) 150 n 1) 151 n 1) 152 n 1) 153 n 0) ht7 rfl rfl ⟨⟨(zhas_of (htn) rfl), (show n < gN S from by omega)⟩, (by decide)⟩ ?_
    refine zv_c1 ht7 rfl rfl (zv_c1 ht7 rfl rfl ?_)
    refine zv_ci (S' := sI (sI (sI (sI (sI (sI (sI (sI (sI S 145 n 3) 147 n 0) 148 n 0) 149 n 1) 150 n 1) 151 n 1) 152 n 1) 153 n 0) 154 n 1) ht7 rfl rfl ⟨⟨(zhas_of (htn) rfl), (show n < gN S from by omega)⟩, (by decide)⟩ ?_
    refine zv_c1 ht7 rfl rfl (zv_c1 ht7 rfl rfl ?_)
    refine zv_ci (S' := sI (sI (sI (sI (sI (sI (sI (sI (sI (sI S 145 n 3) 147 n 0) 148 n 0) 149 n 1) 150 n 1) 151 n 1) 152 n 1) 153 n 0) 154 n 1) 155 n 1) ht7 rfl rfl ⟨⟨(zhas_of (htn) rfl), (show n < gN S from by omega)⟩, (by decide)⟩ ?_
    exact zv_rt ht7 rfl rfl rfl rfl k8
  refine zv_cl ht rfl rfl rfl (zv_tgv (htn) rfl) (by omega) (Nat.le_of_ble_eq_true rfl) (C6 _ ?_)
  show zEv d 311 29 [.ref n] [] (sI (sI (sI (sI (sI (sI (sI (sI (sI (sI S 145 n 3) 147 n 0) 148 n 0) 149 n 1) 150 n 1) 151 n 1) 152 n 1) 153 n 0) 154 n 1) 155 n 1) post
  exact zv_rt ht rfl rfl rfl rfl h1

theorem lj_4 {d : Nat} {S : zS} (hF : zFin true S) (hd : 1 ≤ d) (n : Nat) (v : Nat) (hn0 : 1639 ≤ n) (hn : n < gN S) (htn : ztyp S n = #C.T) (hv1 : v < 2147483648) (hi : gI S 168 n = Int32.ofNat 1) (hv : gI S 167 n = Int32.ofNat v) (hm0 : gI S 156 n = zbo False) (ht0 : gI S 146 n = 0) {post : Outcome × zS → Prop} (h1 : post (.returned none, sI (sI (sI (sI (sI (sI (sI (sI (sI (sI (sI S 145 n 1) 147 n 1) 148 n 0) 149 n 0) 150 n 0) 151 n 0) 152 n 0) 153 n 1) 154 n 0) 155 n 1) 146 n (Int32.ofNat (znt (((Int32.ofNat (v / 4194304)) &&& (1 : Int32)) = 1) 8 4)))) : zCall d 319 [.ref n] S post := by
  have ht : ztab 319 = ztb319 := rfl
  show zEv d 319 0 [.ref n, .retAddr 0] [] S post
  refine zv_c1 ht rfl rfl (zv_c1 ht rfl rfl (zv_c1 ht rfl rfl (zv_c1 ht rfl rfl (zv_c1 ht rfl rfl (zv_c1 ht rfl rfl (zv_c1 ht rfl rfl ?_))))))
  have C2 : ∀ (pst1 : Outcome × zS → Prop), (pst1 (.returned none, sI (sI (sI (sI (sI (sI S 145 n 1) 147 n 1) 148 n 0) 149 n 0) 150 n 0) 151 n 0)) → zCall (d - 1) 284 [.ref n, .int 1, .int 1, .int 0, .int 0, .int 0, .int 0] S pst1 := by
    intro pst1 k4
    have ht3 : ztab 284 = ztb284 := rfl
    show zEv (d - 1) 284 0 [.ref n, .int 1, .int 1, .int 0, .int 0, .int 0, .int 0] [] S pst1
    refine zv_c1 ht3 rfl rfl (zv_c1 ht3 rfl rfl ?_)
    refine zv_ci (S' := sI S 145 n 1) ht3 rfl rfl ⟨(zhas_of (htn) rfl), (show n < gN S from by omega)⟩ ?_
    refine zv_c1 ht3 rfl rfl (zv_c1 ht3 rfl rfl ?_)
    refine zv_ci (S' := sI (sI S 145 n 1) 147 n 1) ht3 rfl rfl ⟨⟨(zhas_of (htn) rfl), (show n < gN S from by omega)⟩, (by decide)⟩ ?_
    refine zv_c1 ht3 rfl rfl (zv_c1 ht3 rfl rfl ?_)
    refine zv_ci (S' := sI (sI (sI S 145 n 1) 147 n 1) 148 n 0) ht3 rfl rfl ⟨⟨(zhas_of (htn) rfl), (show n < gN S from by omega)⟩, (by decide)⟩ ?_
    refine zv_c1 ht3 rfl rfl (zv_c1 ht3 rfl rfl ?_)
    refine zv_ci (S' := sI (sI (sI (sI S 145 n 1) 147 n 1) 148 n 0) 149 n 0) ht3 rfl rfl ⟨⟨(zhas_of (htn) rfl), (show n < gN S from by omega)⟩, (by decide)⟩ ?_
    refine zv_c1 ht3 rfl rfl (zv_c1 ht3 rfl rfl ?_)
    refine zv_ci (S' := sI (sI (sI (sI (sI S 145 n 1) 147 n 1) 148 n 0) 149 n 0) 150 n 0) ht3 rfl rfl ⟨⟨(zhas_of (htn) rfl), (show n < gN S from by omega)⟩, (by decide)⟩ ?_
    refine zv_c1 ht3 rfl rfl (zv_c1 ht3 rfl rfl ?_)
    refine zv_ci (S' := sI (sI (sI (sI (sI (sI S 145 n 1) 147 n 1) 148 n 0) 149 n 0) 150 n 0) 151 n 0) ht3 rfl rfl ⟨⟨(zhas_of (htn) rfl), (show n < gN S from by omega)⟩, (by decide)⟩ ?_
    exact zv_rt ht3 rfl rfl rfl rfl k4
  refine zv_cl ht rfl rfl rfl (zv_tgv (htn) rfl) (by omega) (Nat.le_of_ble_eq_true rfl) (C2 _ ?_)
  show zEv d 319 10 [.ref n, .retAddr 0] [] (sI (sI (sI (sI (sI (sI S 145 n 1) 147 n 1) 148 n 0) 149 n 0) 150 n 0) 151 n 0) post
  refine zv_c1 ht rfl rfl (zv_c1 ht rfl rfl (zv_c1 ht rfl rfl (zv_c1 ht rfl rfl (zv_c1 ht rfl rfl ?_))))
  have C6 : ∀ (pst5 : Outcome × zS → Prop), (pst5 (.returned none, sI (sI (sI (sI (sI (sI (sI (sI (sI (sI S 145 n 1) 147 n 1) 148 n 0) 149 n 0) 150 n 0) 151 n 0) 152 n 0) 153 n 1) 154 n 0) 155 n 1)) → zCall (d - 1) 285 [.ref n, .int 0, .int 1, .int 0, .int 1] (sI (sI (sI (sI (sI (sI S 145 n 1) 147 n 1) 148 n 0) 149 n 0) 150 n 0) 151 n 0) pst5 := by
    intro pst5 k8
    have ht7 : ztab 285 = ztb285 := rfl
    show zEv (d - 1) 285 0 [.ref n, .int 0, .int 1, .int 0, .int 1] [] (sI (sI (sI (sI (sI (sI S 145 n 1) 147 n 1) 148 n 0) 149 n 0) 150 n 0) 151 n 0) pst5
    refine zv_c1 ht7 rfl rfl (zv_c1 ht7 rfl rfl ?_)
    refine zv_ci (S' := sI (sI (sI (sI (sI (sI (sI S 145 n 1) 147 n 1) 148 n 0) 149 n 0) 150 n 0) 151 n 0) 152 n 0) ht7 rfl rfl ⟨⟨(zhas_of (htn) rfl), (show n < gN S from by omega)⟩, (by decide)⟩ ?_
    refine zv_c1 ht7 rfl rfl (zv_c1 ht7 rfl rfl ?_)
    refine zv_ci (S' := sI (sI (sI (sI (sI (sI (sI (sI S 145 n 1) 147 n 1) 148 n 0) 149 n 0) 150 n 0) 151 n 0) 152 n 0) 153 n 1) ht7 rfl rfl ⟨⟨(zhas_of (htn) rfl), (show n < gN S from by omega)⟩, (by decide)⟩ ?_
    refine zv_c1 ht7 rfl rfl (zv_c1 ht7 rfl rfl ?_)
    refine zv_ci (S' := sI (sI (sI (sI (sI (sI (sI (sI (sI S 145 n 1) 147 n 1) 148 n 0) 149 n 0) 150 n 0) 151 n 0) 152 n 0) 153 n 1) 154 n 0) ht7 rfl rfl ⟨⟨(zhas_of (htn) rfl), (show n < gN S from by omega)⟩, (by decide)⟩ ?_
    refine zv_c1 ht7 rfl rfl (zv_c1 ht7 rfl rfl ?_)
    refine zv_ci (S' := sI (sI (sI (sI (sI (sI (sI (sI (sI (sI S 145 n 1) 147 n 1) 148 n 0) 149 n 0) 150 n 0) 151 n 0) 152 n 0) 153 n 1) 154 n 0) 155 n 1) ht7 rfl rfl ⟨⟨(zhas_of (htn) rfl), (show n < gN S from by omega)⟩, (by decide)⟩ ?_
    exact zv_rt ht7 rfl rfl rfl rfl k8
  refine zv_cl ht rfl rfl rfl (zv_tgv (htn) rfl) (by omega) (Nat.le_of_ble_eq_true rfl) (C6 _ ?_)
  show zEv d 319 18 [.ref n, .retAddr 0] [] (sI (sI (sI (sI (sI (sI (sI (sI (sI (sI S 145 n 1) 147 n 1) 148 n 0) 149 n 0) 150 n 0) 151 n 0) 152 n 0) 153 n 1) 154 n 0) 155 n 1) post
  refine zv_c1 ht rfl rfl ?_
  refine zv_ei (x := 1) ht rfl rfl (zhas_of (htn) rfl) hi ?_
  refine zv_br ht rfl rfl rfl (fun h => absurd h (by decide)) (fun _ => ?_)
  refine zv_c1 ht rfl rfl ?_
  refine zv_ei (x := Int32.ofNat v) ht rfl rfl (zhas_of (htn) rfl) hv ?_
  refine zv_c1 ht rfl rfl ?_
  refine zv_e1 (x := Int32.ofNat (v / 4194304)) ht rfl rfl (zi_shrE (a := v) (c := 22) rfl (by omega) (by decide)) ?_
  refine zv_c1 ht rfl rfl ?_
  refine zv_c1 (st' := [.int ((Int32.ofNat (v / 4194304)) &&& (1 : Int32))]) (S' := sI (sI (sI (sI (sI (sI (sI (sI (sI (sI S 145 n 1) 147 n 1) 148 n 0) 149 n 0) 150 n 0) 151 n 0) 152 n 0) 153 n 1) 154 n 0) 155 n 1) ht rfl rfl ?_
  refine zv_c1 ht rfl rfl ?_
  have J10 : zEv d 319 53 [.ref n, .retAddr 0] [.int (zbo (((Int32.ofNat (v / 4194304)) &&& (1 : Int32)) = 1))] (sI (sI (sI (sI (sI (sI (sI (sI (sI (sI S 145 n 1) 147 n 1) 148 n 0) 149 n 0) 150 n 0) 151 n 0) 152 n 0) 153 n 1) 154 n 0) 155 n 1) post := by
    refine zv_c2 (L' := [.ref n, .int (zbo (((Int32.ofNat (v / 4194304)) &&& (1 : Int32)) = 1))]) ht rfl rfl ?_
    refine zv_c1 ht rfl rfl (zv_c1 ht rfl rfl ?_)
    refine zv_ei (x := 1) ht rfl rfl (zhas_of (htn) rfl) hi ?_
    refine zv_br ht rfl rfl rfl (fun h => absurd h (by decide)) (fun _ => ?_)
    refine zv_c1 ht rfl rfl ?_
    have J13 : zEv d 319 84 [.retAddr 0, .retAddr 0] [.int (Int32.ofNat (znt (((Int32.ofNat (v / 4194304)) &&& (1 : Int32)) = 1) 8 4)), .ref n] (sI (sI (sI (sI (sI (sI (sI (sI (sI (sI S 145 n 1) 147 n 1) 148 n 0) 149 n 0) 150 n 0) 151 n 0) 152 n 0) 153 n 1) 154 n 0) 155 n 1) post := by
      have C16 : ∀ (pst15 : Outcome × zS → Prop), (pst15 (.returned none, sI (sI (sI (sI (sI (sI (sI (sI (sI (sI (sI S 145 n 1) 147 n 1) 148 n 0) 149 n 0) 150 n 0) 151 n 0) 152 n 0) 153 n 1) 154 n 0) 155 n 1) 146 n (Int32.ofNat (znt (((Int32.ofNat (v / 4194304)) &&& (1 : Int32)) = 1) 8 4)))) → zCall (d - 1) 287 [.ref n, .int (Int32.ofNat (znt (((Int32.ofNat (v / 4194304)) &&& (1 : Int32)) = 1) 8 4))] (sI (sI (sI (sI (sI (sI (sI (sI (sI (sI S 145 n 1) 147 n 1) 148 n 0) 149 n 0) 150 n 0) 151 n 0) 152 n 0) 153 n 1) 154 n 0) 155 n 1) pst15 := by
        intro pst15 k18
        have ht17 : ztab 287 = ztb287 := rfl
        show zEv (d - 1) 287 0 [.ref n, .int (Int32.ofNat (znt (((Int32.ofNat (v / 4194304)) &&& (1 : Int32)) = 1) 8 4))] [] (sI (sI (sI (sI (sI (sI (sI (sI (sI (sI S 145 n 1) 147 n 1) 148 n 0) 149 n 0) 150 n 0) 151 n 0) 152 n 0) 153 n 1) 154 n 0) 155 n 1) pst15
        refine zv_c1 ht17 rfl rfl (zv_c1 ht17 rfl rfl ?_)
        refine zv_ci (S' := sI (sI (sI (sI (sI (sI (sI (sI (sI (sI (sI S 145 n 1) 147 n 1) 148 n 0) 149 n 0) 150 n 0) 151 n 0) 152 n 0) 153 n 1) 154 n 0) 155 n 1) 146 n (Int32.ofNat (znt (((Int32.ofNat (v / 4194304)) &&& (1 : Int32)) = 1) 8 4))) ht17 rfl rfl ⟨(zhas_of (htn) rfl), (show n < gN S from by omega)⟩ ?_
        exact zv_rt ht17 rfl rfl rfl rfl k18
      refine zv_cl ht rfl rfl rfl (zv_tgv (htn) rfl) (by omega) (Nat.le_of_ble_eq_true rfl) (C16 _ ?_)
      show zEv d 319 87 [.retAddr 0, .retAddr 0] [] (sI (sI (sI (sI (sI (sI (sI (sI (sI (sI (sI S 145 n 1) 147 n 1) 148 n 0) 149 n 0) 150 n 0) 151 n 0) 152 n 0) 153 n 1) 154 n 0) 155 n 1) 146 n (Int32.ofNat (znt (((Int32.ofNat (v / 4194304)) &&& (1 : Int32)) = 1) 8 4))) post
      exact zv_rt ht rfl rfl rfl rfl h1
    refine zv_br ht rfl rfl rfl (fun b12 => ?_) (fun b12 => ?_)
    · replace b12 : ¬ (((Int32.ofNat (v / 4194304)) &&& (1 : Int32)) = 1) := (zbo_eq0 : (zbo (((Int32.ofNat (v / 4194304)) &&& (1 : Int32)) = 1)) = 0 ↔ ¬ (((Int32.ofNat (v / 4194304)) &&& (1 : Int32)) = 1)).mp b12
      refine zv_c1 ht rfl rfl (zv_c1 ht rfl rfl ?_)
      exact zEv.wk (L := [.retAddr 0, .retAddr 0]) (L' := [.ref n, .int (zbo (((Int32.ofNat (v / 4194304)) &&& (1 : Int32)) = 1))]) (And.intro (Or.inr rfl) (And.intro (Or.inr rfl) trivial)) (zv_sub (zz := Int32.ofNat (znt (((Int32.ofNat (v / 4194304)) &&& (1 : Int32)) = 1) 8 4)) (zy := 4) (p := fun zz => zEv d 319 84 [.retAddr 0, .retAddr 0] [.int zz, .ref n] (sI (sI (sI (sI (sI (sI (sI (sI (sI (sI S 145 n 1) 147 n 1) 148 n 0) 149 n 0) 150 n 0) 151 n 0) 152 n 0) 153 n 1) 154 n 0) 155 n 1) post) (congrArg Int32.ofNat (znt_neg b12)) J13)
    · replace b12 : ((Int32.ofNat (v / 4194304)) &&& (1 : Int32)) = 1 := Classical.byContradiction (fun h => b12 ((zbo_eq0 : (zbo (((Int32.ofNat (v / 4194304)) &&& (1 : Int32)) = 1)) = 0 ↔ ¬ (((Int32.ofNat (v / 4194304)) &&& (1 : Int32)) = 1)).mpr h))
      refine zv_c1 ht rfl rfl (zv_c1 ht rfl rfl ?_)
      exact zEv.wk (L := [.retAddr 0, .retAddr 0]) (L' := [.ref n, .int (zbo (((Int32.ofNat (v / 4194304)) &&& (1 : Int32)) = 1))]) (And.intro (Or.inr rfl) (And.intro (Or.inr rfl) trivial)) (zv_sub (zz := Int32.ofNat (znt (((Int32.ofNat (v / 4194304)) &&& (1 : Int32)) = 1) 8 4)) (zy := 8) (p := fun zz => zEv d 319 84 [.retAddr 0, .retAddr 0] [.int zz, .ref n] (sI (sI (sI (sI (sI (sI (sI (sI (sI (sI S 145 n 1) 147 n 1) 148 n 0) 149 n 0) 150 n 0) 151 n 0) 152 n 0) 153 n 1) 154 n 0) 155 n 1) post) (congrArg Int32.ofNat (znt_pos b12)) J13)
  refine zv_br ht rfl rfl rfl (fun b9 => ?_) (fun b9 => ?_)
  · refine zv_c1 ht rfl rfl (zv_c1 ht rfl rfl ?_)
    exact (zv_sub (zz := zbo (((Int32.ofNat (v / 4194304)) &&& (1 : Int32)) = 1)) (zy := 0) (p := fun zz => zEv d 319 53 [.ref n, .retAddr 0] [.int zz] (sI (sI (sI (sI (sI (sI (sI (sI (sI (sI S 145 n 1) 147 n 1) 148 n 0) 149 n 0) 150 n 0) 151 n 0) 152 n 0) 153 n 1) 154 n 0) 155 n 1) post) (zbo_neg b9) J10)
  · replace b9 : ((Int32.ofNat (v / 4194304)) &&& (1 : Int32)) = 1 := Classical.not_not.mp b9
    refine zv_c1 ht rfl rfl (zv_c1 ht rfl rfl ?_)
    exact (zv_sub (zz := zbo (((Int32.ofNat (v / 4194304)) &&& (1 : Int32)) = 1)) (zy := 1) (p := fun zz => zEv d 319 53 [.ref n, .retAddr 0] [.int zz] (sI (sI (sI (sI (sI (sI (sI (sI (sI (sI S 145 n 1) 147 n 1) 148 n 0) 149 n 0) 150 n 0) 151 n 0) 152 n 0) 153 n 1) 154 n 0) 155 n 1) post) (zbo_pos b9) J10)

theorem lj_5 {d : Nat} {S : zS} (hF : zFin true S) (hd : 1 ≤ d) (n : Nat) (v : Nat) (hn0 : 1639 ≤ n) (hn : n < gN S) (htn : ztyp S n = #C.T) (hv1 : v < 2147483648) (hi : gI S 168 n = Int32.ofNat 0) (hv : gI S 167 n = Int32.ofNat v) (hm0 : gI S 156 n = zbo False) (ht0 : gI S 146 n = 0) {post : Outcome × zS → Prop} (h1 : post (.returned none, sI (sI (sI (sI (sI (sI (sI (sI (sI (sI (sI S 145 n 1) 147 n 1) 148 n 0) 149 n 0) 150 n 0) 151 n 0) 152 n 0) 153 n 1) 154 n 0) 155 n 1) 146 n (Int32.ofNat (znt (¬ (¬ (v < 500000000))) 1 2)))) : zCall d 319 [.ref n] S post := by
  have ht : ztab 319 = ztb319 := rfl
  show zEv d 319 0 [.ref n, .retAddr 0] [] S post
  refine zv_c1 ht rfl rfl (zv_c1 ht rfl rfl (zv_c1 ht rfl rfl (zv_c1 ht rfl rfl (zv_c1 ht rfl rfl (zv_c1 ht rfl rfl (zv_c1 ht rfl rfl ?_))))))
  have C2 : ∀ (pst1 : Outcome × zS → Prop), (pst1 (.returned none, sI (sI (sI (sI (sI (sI S 145 n 1) 147 n 1) 148 n 0) 149 n 0) 150 n 0) 151 n 0)) → zCall (d - 1) 284 [.ref n, .int 1, .int 1, .int 0, .int 0, .int 0, .int 0] S pst1 := by
    intro pst1 k4
    have ht3 : ztab 284 = ztb284 := rfl
    show zEv (d - 1) 284 0 [.ref n, .int 1, .int 1, .int 0, .int 0, .int 0, .int 0] [] S pst1
    refine zv_c1 ht3 rfl rfl (zv_c1 ht3 rfl rfl ?_)
    refine zv_ci (S' := sI S 145 n 1) ht3 rfl rfl ⟨(zhas_of (htn) rfl), (show n < gN S from by omega)⟩ ?_
    refine zv_c1 ht3 rfl rfl (zv_c1 ht3 rfl rfl ?_)
    refine zv_ci (S' := sI (sI S 145 n 1) 147 n 1) ht3 rfl rfl ⟨⟨(zhas_of (htn) rfl), (show n < gN S from by omega)⟩, (by decide)⟩ ?_
    refine zv_c1 ht3 rfl rfl (zv_c1 ht3 rfl rfl ?_)
    refine zv_ci (S' := sI (sI (sI S 145 n 1) 147 n 1) 148 n 0) ht3 rfl rfl ⟨⟨(zhas_of (htn) rfl), (show n < gN S from by omega)⟩, (by decide)⟩ ?_
    refine zv_c1 ht3 rfl rfl (zv_c1 ht3 rfl rfl ?_)
    refine zv_ci (S' := sI (sI (sI (sI S 145 n 1) 147 n 1) 148 n 0) 149 n 0) ht3 rfl rfl ⟨⟨(zhas_of (htn) rfl), (show n < gN S from by omega)⟩, (by decide)⟩ ?_
    refine zv_c1 ht3 rfl rfl (zv_c1 ht3 rfl rfl ?_)
    refine zv_ci (S' := sI (sI (sI (sI (sI S 145 n 1) 147 n 1) 148 n 0) 149 n 0) 150 n 0) ht3 rfl rfl ⟨⟨(zhas_of (htn) rfl), (show n < gN S from by omega)⟩, (by decide)⟩ ?_
    refine zv_c1 ht3 rfl rfl (zv_c1 ht3 rfl rfl ?_)
    refine zv_ci (S' := sI (sI (sI (sI (sI (sI S 145 n 1) 147 n 1) 148 n 0) 149 n 0) 150 n 0) 151 n 0) ht3 rfl rfl ⟨⟨(zhas_of (htn) rfl), (show n < gN S from by omega)⟩, (by decide)⟩ ?_
    exact zv_rt ht3 rfl rfl rfl rfl k4
  refine zv_cl ht rfl rfl rfl (zv_tgv (htn) rfl) (by omega) (Nat.le_of_ble_eq_true rfl) (C2 _ ?_)
  show zEv d 319 10 [.ref n, .retAddr 0] [] (sI (sI (sI (sI (sI (sI S 145 n 1) 147 n 1) 148 n 0) 149 n 0) 150 n 0) 151 n 0) post
  refine zv_c1 ht rfl rfl (zv_c1 ht rfl rfl (zv_c1 ht rfl rfl (zv_c1 ht rfl rfl (zv_c1 ht rfl rfl ?_))))
  have C6 : ∀ (pst5 : Outcome × zS → Prop), (pst5 (.returned none, sI (sI (sI (sI (sI (sI (sI (sI (sI (sI S 145 n 1) 147 n 1) 148 n 0) 149 n 0) 150 n 0) 151 n 0) 152 n 0) 153 n 1) 154 n 0) 155 n 1)) → zCall (d - 1) 285 [.ref n, .int 0, .int 1, .int 0, .int 1] (sI (sI (sI (sI (sI (sI S 145 n 1) 147 n 1) 148 n 0) 149 n 0) 150 n 0) 151 n 0) pst5 := by
    intro pst5 k8
    have ht7 : ztab 285 = ztb285 := rfl
    show zEv (d - 1) 285 0 [.ref n, .int 0, .int 1, .int 0, .int 1] [] (sI (sI (sI (sI (sI (sI S 145 n 1) 147 n 1) 148 n 0) 149 n 0) 150 n 0) 151 n 0) pst5
    refine zv_c1 ht7 rfl rfl (zv_c1 ht7 rfl rfl ?_)
    refine zv_ci (S' := sI (sI (sI (sI (sI (sI (sI S 145 n 1) 147 n 1) 148 n 0) 149 n 0) 150 n 0) 151 n 0) 152 n 0) ht7 rfl rfl ⟨⟨(zhas_of (htn) rfl), (show n < gN S from by omega)⟩, (by decide)⟩ ?_
    refine zv_c1 ht7 rfl rfl (zv_c1 ht7 rfl rfl ?_)
    refine zv_ci (S' := sI (sI (sI (sI (sI (sI (sI (sI S 145 n 1) 147 n 1) 148 n 0) 149 n 0) 150 n 0) 151 n 0) 152 n 0) 153 n 1) ht7 rfl rfl ⟨⟨(zhas_of (htn) rfl), (show n < gN S from by omega)⟩, (by decide)⟩ ?_
    refine zv_c1 ht7 rfl rfl (zv_c1 ht7 rfl rfl ?_)
    refine zv_ci (S' := sI (sI (sI (sI (sI (sI (sI (sI (sI S 145 n 1) 147 n 1) 148 n 0) 149 n 0) 150 n 0) 151 n 0) 152 n 0) 153 n 1) 154 n 0) ht7 rfl rfl ⟨⟨(zhas_of (htn) rfl), (show n < gN S from by omega)⟩, (by decide)⟩ ?_
    refine zv_c1 ht7 rfl rfl (zv_c1 ht7 rfl rfl ?_)
    refine zv_ci (S' := sI (sI (sI (sI (sI (sI (sI (sI (sI (sI S 145 n 1) 147 n 1) 148 n 0) 149 n 0) 150 n 0) 151 n 0) 152 n 0) 153 n 1) 154 n 0) 155 n 1) ht7 rfl rfl ⟨⟨(zhas_of (htn) rfl), (show n < gN S from by omega)⟩, (by decide)⟩ ?_
    exact zv_rt ht7 rfl rfl rfl rfl k8
  refine zv_cl ht rfl rfl rfl (zv_tgv (htn) rfl) (by omega) (Nat.le_of_ble_eq_true rfl) (C6 _ ?_)
  show zEv d 319 18 [.ref n, .retAddr 0] [] (sI (sI (sI (sI (sI (sI (sI (sI (sI (sI S 145 n 1) 147 n 1) 148 n 0) 149 n 0) 150 n 0) 151 n 0) 152 n 0) 153 n 1) 154 n 0) 155 n 1) post
  refine zv_c1 ht rfl rfl ?_
  refine zv_ei (x := 0) ht rfl rfl (zhas_of (htn) rfl) hi ?_
  refine zv_br ht rfl rfl rfl (fun _ => ?_) (fun h => absurd (by decide) h)
  refine zv_c1 ht rfl rfl ?_
  refine zv_ei (x := Int32.ofNat v) ht rfl rfl (zhas_of (htn) rfl) hv ?_
  have C10 : ∀ (pst9 : Outcome × zS → Prop), (pst9 (.returned (some (.int (zbo (¬ (v < 500000000))))), sI (sI (sI (sI (sI (sI (sI (sI (sI (sI S 145 n 1) 147 n 1) 148 n 0) 149 n 0) 150 n 0) 151 n 0) 152 n 0) 153 n 1) 154 n 0) 155 n 1)) → zCall (d - 1) 10 [.int (Int32.ofNat v)] (sI (sI (sI (sI (sI (sI (sI (sI (sI (sI S 145 n 1) 147 n 1) 148 n 0) 149 n 0) 150 n 0) 151 n 0) 152 n 0) 153 n 1) 154 n 0) 155 n 1) pst9 := by
    intro pst9 k16
    have ht11 : ztab 10 = ztb10 := rfl
    show zEv (d - 1) 10 0 [.int (Int32.ofNat v)] [] (sI (sI (sI (sI (sI (sI (sI (sI (sI (sI S 145 n 1) 147 n 1) 148 n 0) 149 n 0) 150 n 0) 151 n 0) 152 n 0) 153 n 1) 154 n 0) 155 n 1) pst9
    refine zv_c1 ht11 rfl rfl ?_
    refine zv_br ht11 rfl rfl rfl (fun b12 => (show False from by have hq := b12; have hz : v < 0 := (zi_ltE (a := v) (b := 0) rfl rfl (by omega) (by omega)).mp hq; omega).elim) (fun b12 => ?_)
    refine zv_c1 ht11 rfl rfl (zv_c1 ht11 rfl rfl ?_)
    have J14 : zEv (d - 1) 10 15 [.retAddr 0] [.int (zbo (¬ (v < 500000000)))] (sI (sI (sI (sI (sI (sI (sI (sI (sI (sI S 145 n 1) 147 n 1) 148 n 0) 149 n 0) 150 n 0) 151 n 0) 152 n 0) 153 n 1) 154 n 0) 155 n 1) pst9 := by
      exact zv_rc ht11 rfl rfl rfl rfl zbo_rng k16
    refine zv_br ht11 rfl rfl rfl (fun b13 => ?_) (fun b13 => ?_)
    · replace b13 : v < 500000000 := (zi_ltE (a := v) (b := 500000000) rfl rfl (by omega) (by omega)).mp b13
      refine zv_c1 ht11 rfl rfl ?_
      exact zEv.wk (L := [.retAddr 0]) (L' := [.int (Int32.ofNat v)]) (And.intro (Or.inr rfl) trivial) (zv_sub (zz := zbo (¬ (v < 500000000))) (zy := 0) (p := fun zz => zEv (d - 1) 10 15 [.retAddr 0] [.int zz] (sI (sI (sI (sI (sI (sI (sI (sI (sI (sI S 145 n 1) 147 n 1) 148 n 0) 149 n 0) 150 n 0) 151 n 0) 152 n 0) 153 n 1) 154 n 0) 155 n 1) pst9) (zbo_neg (fun h => h b13)) J14)
    · replace b13 : ¬ (v < 500000000) := fun h => b13 ((zi_ltE (a := v) (b := 500000000) rfl rfl (by omega) (by omega)).mpr h)
      refine zv_c1 ht11 rfl rfl (zv_c1 ht11 rfl rfl ?_)
      exact zEv.wk (L := [.retAddr 0]) (L' := [.int (Int32.ofNat v)]) (And.intro (Or.inr rfl) trivial) (zv_sub (zz := zbo (¬ (v < 500000000))) (zy := 1) (p := fun zz => zEv (d - 1) 10 15 [.retAddr 0] [.int zz] (sI (sI (sI (sI (sI (sI (sI (sI (sI (sI S 145 n 1) 147 n 1) 148 n 0) 149 n 0) 150 n 0) 151 n 0) 152 n 0) 153 n 1) 154 n 0) 155 n 1) pst9) (zbo_pos b13) J14)
  refine zv_cl ht rfl rfl rfl rfl (by omega) (Nat.le_of_ble_eq_true rfl) (C10 _ ?_)
  show zEv d 319 53 [.ref n, .retAddr 0] [.int (zbo (¬ (v < 500000000)))] (sI (sI (sI (sI (sI (sI (sI (sI (sI (sI S 145 n 1) 147 n 1) 148 n 0) 149 n 0) 150 n 0) 151 n 0) 152 n 0) 153 n 1) 154 n 0) 155 n 1) post
  refine zv_c2 (L' := [.ref n, .int (zbo (¬ (v < 500000000)))]) ht rfl rfl ?_
  refine zv_c1 ht rfl rfl (zv_c1 ht rfl rfl ?_)
  refine zv_ei (x := 0) ht rfl rfl (zhas_of (htn) rfl) hi ?_
  refine zv_br ht rfl rfl rfl (fun _ => ?_) (fun h => absurd (by decide) h)
  refine zv_c1 ht rfl rfl ?_
  have J18 : zEv d 319 84 [.retAddr 0, .retAddr 0] [.int (Int32.ofNat (znt (¬ (¬ (v < 500000000))) 1 2)), .ref n] (sI (sI (sI (sI (sI (sI (sI (sI (sI (sI S 145 n 1) 147 n 1) 148 n 0) 149 n 0) 150 n 0) 151 n 0) 152 n 0) 153 n 1) 154 n 0) 155 n 1) post := by
    have C21 : ∀ (pst20 : Outcome × zS → Prop), (pst20 (.returned none, sI (sI (sI (sI (sI (sI (sI (sI (sI (sI (sI S 145 n 1) 147 n 1) 148 n 0) 149 n 0) 150 n 0) 151 n 0) 152 n 0) 153 n 1) 154 n 0) 155 n 1) 146 n (Int32.ofNat (znt (¬ (¬ (v < 500000000))) 1 2)))) → zCall (d - 1) 287 [.ref n, .int (Int32.ofNat (znt (¬ (¬ (v < 500000000))) 1 2))] (sI (sI (sI (sI (sI (sI (sI (sI (sI (sI S 145 n 1) 147 n 1) 148 n 0) 149 n 0) 150 n 0) 151 n 0) 152 n 0) 153 n 1) 154 n 0) 155 n 1) pst20 := by
      intro pst20 k23
      have ht22 : ztab 287 = ztb287 := rfl
      show zEv (d - 1) 287 0 [.ref n, .int (Int32.ofNat (znt (¬ (¬ (v < 500000000))) 1 2))] [] (sI (sI (sI (sI (sI (sI (sI (sI (sI (sI S 145 n 1) 147 n 1) 148 n 0) 149 n 0) 150 n 0) 151 n 0) 152 n 0) 153 n 1) 154 n 0) 155 n 1) pst20
      refine zv_c1 ht22 rfl rfl (zv_c1 ht22 rfl rfl ?_)
      refine zv_ci (S' := sI (sI (sI (sI (sI (sI (sI (sI (sI (sI (sI S 145 n 1) 147 n 1) 148 n 0) 149 n 0) 150 n 0) 151 n 0) 152 n 0) 153 n 1) 154 n 0) 155 n 1) 146 n (Int32.ofNat (znt (¬ (¬ (v < 500000000))) 1 2))) ht22 rfl rfl ⟨(zhas_of (htn) rfl), (show n < gN S from by omega)⟩ ?_
      exact zv_rt ht22 rfl rfl rfl rfl k23
    refine zv_cl ht rfl rfl rfl (zv_tgv (htn) rfl) (by omega) (Nat.le_of_ble_eq_true rfl) (C21 _ ?_)
    show zEv d 319 87 [.retAddr 0, .retAddr 0] [] (sI (sI (sI (sI (sI (sI (sI (sI (sI (sI (sI S 145 n 1) 147 n 1) 148 n 0) 149 n 0) 150 n 0) 151 n 0) 152 n 0) 153 n 1) 154 n 0) 155 n 1) 146 n (Int32.ofNat (znt (¬ (¬ (v < 500000000))) 1 2))) post
    exact zv_rt ht rfl rfl rfl rfl h1
  refine zv_br ht rfl rfl rfl (fun b17 => ?_) (fun b17 => ?_)
  · replace b17 : ¬ (¬ (v < 500000000)) := (zbo_eq0 : (zbo (¬ (v < 500000000))) = 0 ↔ ¬ (¬ (v < 500000000))).mp b17
    refine zv_c1 ht rfl rfl ?_
    exact zEv.wk (L := [.retAddr 0, .retAddr 0]) (L' := [.ref n, .int (zbo (¬ (v < 500000000)))]) (And.intro (Or.inr rfl) (And.intro (Or.inr rfl) trivial)) (zv_sub (zz := Int32.ofNat (znt (¬ (¬ (v < 500000000))) 1 2)) (zy := 1) (p := fun zz => zEv d 319 84 [.retAddr 0, .retAddr 0] [.int zz, .ref n] (sI (sI (sI (sI (sI (sI (sI (sI (sI (sI S 145 n 1) 147 n 1) 148 n 0) 149 n 0) 150 n 0) 151 n 0) 152 n 0) 153 n 1) 154 n 0) 155 n 1) post) (congrArg Int32.ofNat (znt_pos b17)) J18)
  · replace b17 : ¬ (v < 500000000) := Classical.byContradiction (fun h => b17 ((zbo_eq0 : (zbo (¬ (v < 500000000))) = 0 ↔ ¬ (¬ (v < 500000000))).mpr h))
    refine zv_c1 ht rfl rfl (zv_c1 ht rfl rfl ?_)
    exact zEv.wk (L := [.retAddr 0, .retAddr 0]) (L' := [.ref n, .int (zbo (¬ (v < 500000000)))]) (And.intro (Or.inr rfl) (And.intro (Or.inr rfl) trivial)) (zv_sub (zz := Int32.ofNat (znt (¬ (¬ (v < 500000000))) 1 2)) (zy := 2) (p := fun zz => zEv d 319 84 [.retAddr 0, .retAddr 0] [.int zz, .ref n] (sI (sI (sI (sI (sI (sI (sI (sI (sI (sI S 145 n 1) 147 n 1) 148 n 0) 149 n 0) 150 n 0) 151 n 0) 152 n 0) 153 n 1) 154 n 0) 155 n 1) post) (congrArg Int32.ofNat (znt_neg (fun h => h b17))) J18)

theorem ij_ {d : Nat} {S : zS} (hF : zFin true S) (hd : 1 ≤ d) (n : Nat)  (hn0 : 1639 ≤ n) (hn : n < gN S) (htn : ztyp S n = #C.I) (hm0 : gI S 156 n = zbo False) (ht0 : gI S 146 n = 0) {post : Outcome × zS → Prop} (h1 : post (.returned none, sI (sI (sI (sI (sI (sI (sI (sI (sI (sI S 145 n 1) 147 n 0) 148 n 1) 149 n 1) 150 n 1) 151 n 1) 152 n 0) 153 n 0) 154 n 0) 155 n 1)) : zCall d 326 [.ref n] S post := by
  have ht : ztab 326 = ztb326 := rfl
  show zEv d 326 0 [.ref n] [] S post
  refine zv_c1 ht rfl rfl (zv_c1 ht rfl rfl (zv_c1 ht rfl rfl (zv_c1 ht rfl rfl (zv_c1 ht rfl rfl (zv_c1 ht rfl rfl (zv_c1 ht rfl rfl ?_))))))
  have C2 : ∀ (pst1 : Outcome × zS → Prop), (pst1 (.returned none, sI (sI (sI (sI (sI (sI S 145 n 1) 147 n 0) 148 n 1) 149 n 1) 150 n 1) 151 n 1)) → zCall (d - 1) 284 [.ref n, .int 1, .int 0, .int 1, .int 1, .int 1, .int 1] S pst1 := by
    intro pst1 k4
    have ht3 : ztab 284 = ztb284 := rfl
    show zEv (d - 1) 284 0 [.ref n, .int 1, .int 0, .int 1, .int 1, .int 1, .int 1] [] S pst1
    refine zv_c1 ht3 rfl rfl (zv_c1 ht3 rfl rfl ?_)
    refine zv_ci (S' := sI S 145 n 1) ht3 rfl rfl ⟨(zhas_of (htn) rfl), (show n < gN S from by omega)⟩ ?_
    refine zv_c1 ht3 rfl rfl (zv_c1 ht3 rfl rfl ?_)
    refine zv_ci (S' := sI (sI S 145 n 1) 147 n 0) ht3 rfl rfl ⟨⟨(zhas_of (htn) rfl), (show n < gN S from by omega)⟩, (by decide)⟩ ?_
    refine zv_c1 ht3 rfl rfl (zv_c1 ht3 rfl rfl ?_)
    refine zv_ci (S' := sI (sI (sI S 145 n 1) 147 n 0) 148 n 1) ht3 rfl rfl ⟨⟨(zhas_of (htn) rfl), (show n < gN S from by omega)⟩, (by decide)⟩ ?_
    refine zv_c1 ht3 rfl rfl (zv_c1 ht3 rfl rfl ?_)
    refine zv_ci (S' := sI (sI (sI (sI S 145 n 1) 147 n 0) 148 n 1) 149 n 1) ht3 rfl rfl ⟨⟨(zhas_of (htn) rfl), (show n < gN S from by omega)⟩, (by decide)⟩ ?_
    refine zv_c1 ht3 rfl rfl (zv_c1 ht3 rfl rfl ?_)
    refine zv_ci (S' := sI (sI (sI (sI (sI S 145 n 1) 147 n 0) 148 n 1) 149 n 1) 150 n 1) ht3 rfl rfl ⟨⟨(zhas_of (htn) rfl), (show n < gN S from by omega)⟩, (by decide)⟩ ?_
    refine zv_c1 ht3 rfl rfl (zv_c1 ht3 rfl rfl ?_)
    refine zv_ci (S' := sI (sI (sI (sI (sI (sI S 145 n 1) 147 n 0) 148 n 1) 149 n 1) 150 n 1) 151 n 1) ht3 rfl rfl ⟨⟨(zhas_of (htn) rfl), (show n < gN S from by omega)⟩, (by decide)⟩ ?_
    exact zv_rt ht3 rfl rfl rfl rfl k4
  refine zv_cl ht rfl rfl rfl (zv_tgv (htn) rfl) (by omega) (Nat.le_of_ble_eq_true rfl) (C2 _ ?_)
  show zEv d 326 10 [.ref n] [] (sI (sI (sI (sI (sI (sI S 145 n 1) 147 n 0) 148 n 1) 149 n 1) 150 n 1) 151 n 1) post
  refine zv_c1 ht rfl rfl (zv_c1 ht rfl rfl (zv_c1 ht rfl rfl (zv_c1 ht rfl rfl (zv_c1 ht rfl rfl ?_))))
  have C6 : ∀ (pst5 : Outcome × zS → Prop), (pst5 (.returned none, sI (sI (sI (sI (sI (sI (sI (sI (sI (sI S 145 n 1) 147 n 0) 148 n 1) 149 n 1) 150 n 1) 151 n 1) 152 n 0) 153 n 0) 154 n 0) 155 n 1)) → zCall (d - 1) 285 [.ref n, .int 0, .int 0, .int 0, .int 1] (sI (sI (sI (sI (sI (sI S 145 n 1) 147 n 0) 148 n 1) 149 n 1) 150 n 1) 151 n 1) pst5 := by
    intro pst5 k8
    have ht7 : ztab 285 = ztb285 := rfl
    show zEv (d - 1) 285 0 [.ref n, .int 0, .int 0, .int 0, .int 1] [] (sI (sI (sI (sI (sI (sI S 145 n 1) 147 n 0) 148 n 1) 149 n 1) 150 n 1) 151 n 1) pst5
    refine zv_c1 ht7 rfl rfl (zv_c1 ht7 rfl rfl ?_)
    refine zv_ci (S' := sI (sI (sI (sI (sI (sI (sI S 145 n 1) 147 n 0) 148 n 1) 149 n 1) 150 n 1) 151 n 1) 152 n 0) ht7 rfl rfl ⟨⟨(zhas_of (htn) rfl), (show n < gN S from by omega)⟩, (by decide)⟩ ?_
    refine zv_c1 ht7 rfl rfl (zv_c1 ht7 rfl rfl ?_)
    refine zv_ci (S' := sI (sI (sI (sI (sI (sI (sI (sI S 145 n 1) 147 n 0) 148 n 1) 149 n 1) 150 n 1) 151 n 1) 152 n 0) 153 n 0) ht7 rfl rfl ⟨⟨(zhas_of (htn) rfl), (show n < gN S from by omega)⟩, (by decide)⟩ ?_
    refine zv_c1 ht7 rfl rfl (zv_c1 ht7 rfl rfl ?_)
    refine zv_ci (S' := sI (sI (sI (sI (sI (sI (sI (sI (sI S 145 n 1) 147 n 0) 148 n 1) 149 n 1) 150 n 1) 151 n 1) 152 n 0) 153 n 0) 154 n 0) ht7 rfl rfl ⟨⟨(zhas_of (htn) rfl), (show n < gN S from by omega)⟩, (by decide)⟩ ?_
    refine zv_c1 ht7 rfl rfl (zv_c1 ht7 rfl rfl ?_)
    refine zv_ci (S' := sI (sI (sI (sI (sI (sI (sI (sI (sI (sI S 145 n 1) 147 n 0) 148 n 1) 149 n 1) 150 n 1) 151 n 1) 152 n 0) 153 n 0) 154 n 0) 155 n 1) ht7 rfl rfl ⟨⟨(zhas_of (htn) rfl), (show n < gN S from by omega)⟩, (by decide)⟩ ?_
    exact zv_rt ht7 rfl rfl rfl rfl k8
  refine zv_cl ht rfl rfl rfl (zv_tgv (htn) rfl) (by omega) (Nat.le_of_ble_eq_true rfl) (C6 _ ?_)
  show zEv d 326 18 [.ref n] [] (sI (sI (sI (sI (sI (sI (sI (sI (sI (sI S 145 n 1) 147 n 0) 148 n 1) 149 n 1) 150 n 1) 151 n 1) 152 n 0) 153 n 0) 154 n 0) 155 n 1) post
  exact zv_rt ht rfl rfl rfl rfl h1

theorem uj_ {d : Nat} {S : zS} (hF : zFin true S) (hd : 1 ≤ d) (n : Nat)  (hn0 : 1639 ≤ n) (hn : n < gN S) (htn : ztyp S n = #C.U) (hm0 : gI S 156 n = zbo False) (ht0 : gI S 146 n = 0) {post : Outcome × zS → Prop} (h1 : post (.returned none, sI (sI (sI (sI (sI (sI (sI (sI (sI (sI S 145 n 1) 147 n 0) 148 n 0) 149 n 1) 150 n 1) 151 n 1) 152 n 1) 153 n 0) 154 n 1) 155 n 1)) : zCall d 340 [.ref n] S post := by
  have ht : ztab 340 = ztb340 := rfl
  show zEv d 340 0 [.ref n] [] S post
  refine zv_c1 ht rfl rfl (zv_c1 ht rfl rfl (zv_c1 ht rfl rfl (zv_c1 ht rfl rfl (zv_c1 ht rfl rfl (zv_c1 ht rfl rfl (zv_c1 ht rfl rfl ?_))))))
  have C2 : ∀ (pst1 : Outcome × zS → Prop), (pst1 (.returned none, sI (sI (sI (sI (sI (sI S 145 n 1) 147 n 0) 148 n 0) 149 n 1) 150 n 1) 151 n 1)) → zCall (d - 1) 284 [.ref n, .int 1, .int 0, .int 0, .int 1, .int 1, .int 1] S pst1 := by
    intro pst1 k4
    have ht3 : ztab 284 = ztb284 := rfl
    show zEv (d - 1) 284 0 [.ref n, .int 1, .int 0, .int 0, .int 1, .int 1, .int 1] [] S pst1
    refine zv_c1 ht3 rfl rfl (zv_c1 ht3 rfl rfl ?_)
    refine zv_ci (S' := sI S 145 n 1) ht3 rfl rfl ⟨(zhas_of (htn) rfl), (show n < gN S from by omega)⟩ ?_
    refine zv_c1 ht3 rfl rfl (zv_c1 ht3 rfl rfl ?_)
    refine zv_ci (S' := sI (sI S 145 n 1) 147 n 0) ht3 rfl rfl ⟨⟨(zhas_of (htn) rfl), (show n < gN S from by omega)⟩, (by decide)⟩ ?_
    refine zv_c1 ht3 rfl rfl (zv_c1 ht3 rfl rfl ?_)
    refine zv_ci (S' := sI (sI (sI S 145 n 1) 147 n 0) 148 n 0) ht3 rfl rfl ⟨⟨(zhas_of (htn) rfl), (show n < gN S from by omega)⟩, (by decide)⟩ ?_
    refine zv_c1 ht3 rfl rfl (zv_c1 ht3 rfl rfl ?_)
    refine zv_ci (S' := sI (sI (sI (sI S 145 n 1) 147 n 0) 148 n 0) 149 n 1) ht3 rfl rfl ⟨⟨(zhas_of (htn) rfl), (show n < gN S from by omega)⟩, (by decide)⟩ ?_
    refine zv_c1 ht3 rfl rfl (zv_c1 ht3 rfl rfl ?_)
    refine zv_ci (S' := sI (sI (sI (sI (sI S 145 n 1) 147 n 0) 148 n 0) 149 n 1) 150 n 1) ht3 rfl rfl ⟨⟨(zhas_of (htn) rfl), (show n < gN S from by omega)⟩, (by decide)⟩ ?_
    refine zv_c1 ht3 rfl rfl (zv_c1 ht3 rfl rfl ?_)
    refine zv_ci (S' := sI (sI (sI (sI (sI (sI S 145 n 1) 147 n 0) 148 n 0) 149 n 1) 150 n 1) 151 n 1) ht3 rfl rfl ⟨⟨(zhas_of (htn) rfl), (show n < gN S from by omega)⟩, (by decide)⟩ ?_
    exact zv_rt ht3 rfl rfl rfl rfl k4
  refine zv_cl ht rfl rfl rfl (zv_tgv (htn) rfl) (by omega) (Nat.le_of_ble_eq_true rfl) (C2 _ ?_)
  show zEv d 340 10 [.ref n] [] (sI (sI (sI (sI (sI (sI S 145 n 1) 147 n 0) 148 n 0) 149 n 1) 150 n 1) 151 n 1) post
  refine zv_c1 ht rfl rfl (zv_c1 ht rfl rfl (zv_c1 ht rfl rfl (zv_c1 ht rfl rfl (zv_c1 ht rfl rfl ?_))))
  have C6 : ∀ (pst5 : Outcome × zS → Prop), (pst5 (.returned none, sI (sI (sI (sI (sI (sI (sI (sI (sI (sI S 145 n 1) 147 n 0) 148 n 0) 149 n 1) 150 n 1) 151 n 1) 152 n 1) 153 n 0) 154 n 1) 155 n 1)) → zCall (d - 1) 285 [.ref n, .int 1, .int 0, .int 1, .int 1] (sI (sI (sI (sI (sI (sI S 145 n 1) 147 n 0) 148 n 0) 149 n 1) 150 n 1) 151 n 1) pst5 := by
    intro pst5 k8
    have ht7 : ztab 285 = ztb285 := rfl
    show zEv (d - 1) 285 0 [.ref n, .int 1, .int 0, .int 1, .int 1] [] (sI (sI (sI (sI (sI (sI S 145 n 1) 147 n 0) 148 n 0) 149 n 1) 150 n 1) 151 n 1) pst5
    refine zv_c1 ht7 rfl rfl (zv_c1 ht7 rfl rfl ?_)
    refine zv_ci (S' := sI (sI (sI (sI (sI (sI (sI S 145 n 1) 147 n 0) 148 n 0) 149 n 1) 150 n 1) 151 n 1) 152 n 1) ht7 rfl rfl ⟨⟨(zhas_of (htn) rfl), (show n < gN S from by omega)⟩, (by decide)⟩ ?_
    refine zv_c1 ht7 rfl rfl (zv_c1 ht7 rfl rfl ?_)
    refine zv_ci (S' := sI (sI (sI (sI (sI (sI (sI (sI S 145 n 1) 147 n 0) 148 n 0) 149 n 1) 150 n 1) 151 n 1) 152 n 1) 153 n 0) ht7 rfl rfl ⟨⟨(zhas_of (htn) rfl), (show n < gN S from by omega)⟩, (by decide)⟩ ?_
    refine zv_c1 ht7 rfl rfl (zv_c1 ht7 rfl rfl ?_)
    refine zv_ci (S' := sI (sI (sI (sI (sI (sI (sI (sI (sI S 145 n 1) 147 n 0) 148 n 0) 149 n 1) 150 n 1) 151 n 1) 152 n 1) 153 n 0) 154 n 1) ht7 rfl rfl ⟨⟨(zhas_of (htn) rfl), (show n < gN S from by omega)⟩, (by decide)⟩ ?_
    refine zv_c1 ht7 rfl rfl (zv_c1 ht7 rfl rfl ?_)
    refine zv_ci (S' := sI (sI (sI (sI (sI (sI (sI (sI (sI (sI S 145 n 1) 147 n 0) 148 n 0) 149 n 1) 150 n 1) 151 n 1) 152 n 1) 153 n 0) 154 n 1) 155 n 1) ht7 rfl rfl ⟨⟨(zhas_of (htn) rfl), (show n < gN S from by omega)⟩, (by decide)⟩ ?_
    exact zv_rt ht7 rfl rfl rfl rfl k8
  refine zv_cl ht rfl rfl rfl (zv_tgv (htn) rfl) (by omega) (Nat.le_of_ble_eq_true rfl) (C6 _ ?_)
  show zEv d 340 18 [.ref n] [] (sI (sI (sI (sI (sI (sI (sI (sI (sI (sI S 145 n 1) 147 n 0) 148 n 0) 149 n 1) 150 n 1) 151 n 1) 152 n 1) 153 n 0) 154 n 1) 155 n 1) post
  exact zv_rt ht rfl rfl rfl rfl h1

theorem tyB_L {k v : Nat} (h : k < 10 ∨ k = 18) : tyB k v [] = some (tyL k) := by unfold tyB; rw [if_pos h]
theorem zi_and1 (n : Nat) : Int32.ofNat n &&& 1 = Int32.ofNat (n % 2) := by
  apply Int32.toBitVec_inj.mp
  rw [Int32.toBitVec_and]
  apply BitVec.eq_of_toNat_eq
  rw [BitVec.toNat_and]
  show (n % 4294967296) &&& 1 = n % 2 % 4294967296
  rw [show (1 : Nat) = 2 ^ 1 - 1 from rfl, Nat.and_two_pow_sub_one_eq_mod]
  omega
theorem lk_4 {v : Nat} : Int32.ofNat (znt ((Int32.ofNat (v / 4194304) &&& (1 : Int32)) = 1) 8 4) = lkL 4 v ||| lkAll [] := by
  show _ = (if v / 4194304 % 2 = 1 then (8 : Int32) else 4) ||| 0
  rw [Int32.or_zero, zi_and1]
  rcases Nat.mod_two_eq_zero_or_one (v / 4194304) with h | h
  · rw [h, znt_neg (by decide), if_neg (by omega)]; rfl
  · rw [h, znt_pos (by decide), if_pos rfl]; rfl
theorem lk_5 {v : Nat} : Int32.ofNat (znt (¬ (¬ (v < 500000000))) 1 2) = lkL 5 v ||| lkAll [] := by
  show _ = (if v < 500000000 then (1 : Int32) else 2) ||| 0
  rw [Int32.or_zero]
  by_cases h : v < 500000000
  · rw [znt_pos (fun x => x h), if_pos h]; rfl
  · rw [znt_neg (fun x => x h), if_neg h]; rfl
theorem jw19_0 {a : Int32} : (False) ↔ bt 0 ((a &&& (24 : Int32)) ||| (a &&& (480 : Int32))) := by
  simp only [bt_or, bt_and, bt_znt, bt_zit, bt_zbo, is_1, is_2, is_4, is_8, is_16, is_20, is_24, is_32, is_64, is_96, is_128, is_152, is_160, is_256, is_288, is_384, is_512, bl_24_0, bm_24_0, bl_480_0, bm_480_0, true_and, and_true, false_and, and_false, or_false, false_or, true_or, or_true, not_true_eq_false, not_false_eq_true, iff_self] <;> grind
theorem jw19_1 {a : Int32} : (False) ↔ bt 1 ((a &&& (24 : Int32)) ||| (a &&& (480 : Int32))) := by
  simp only [bt_or, bt_and, bt_znt, bt_zit, bt_zbo, is_1, is_2, is_4, is_8, is_16, is_20, is_24, is_32, is_64, is_96, is_128, is_152, is_160, is_256, is_288, is_384, is_512, bl_24_1, bm_24_1, bl_480_1, bm_480_1, true_and, and_true, false_and, and_false, or_false, false_or, true_or, or_true, not_true_eq_false, not_false_eq_true, iff_self] <;> grind
theorem jw19_2 {a : Int32} : (False) ↔ bt 2 ((a &&& (24 : Int32)) ||| (a &&& (480 : Int32))) := by
  simp only [bt_or, bt_and, bt_znt, bt_zit, bt_zbo, is_1, is_2, is_4, is_8, is_16, is_20, is_24, is_32, is_64, is_96, is_128, is_152, is_160, is_256, is_288, is_384, is_512, bl_24_2, bm_24_2, bl_480_2, bm_480_2, true_and, and_true, false_and, and_false, or_false, false_or, true_or, or_true, not_true_eq_false, not_false_eq_true, iff_self] <;> grind
theorem jw19_3 {a : Int32} : (bt 3 a) ↔ bt 3 ((a &&& (24 : Int32)) ||| (a &&& (480 : Int32))) := by
  simp only [bt_or, bt_and, bt_znt, bt_zit, bt_zbo, is_1, is_2, is_4, is_8, is_16, is_20, is_24, is_32, is_64, is_96, is_128, is_152, is_160, is_256, is_288, is_384, is_512, bl_24_3, bm_24_3, bl_480_3, bm_480_3, true_and, and_true, false_and, and_false, or_false, false_or, true_or, or_true, not_true_eq_false, not_false_eq_true, iff_self] <;> grind
theorem jw19_4 {a : Int32} : (bt 4 a) ↔ bt 4 ((a &&& (24 : Int32)) ||| (a &&& (480 : Int32))) := by
  simp only [bt_or, bt_and, bt_znt, bt_zit, bt_zbo, is_1, is_2, is_4, is_8, is_16, is_20, is_24, is_32, is_64, is_96, is_128, is_152, is_160, is_256, is_288, is_384, is_512, bl_24_4, bm_24_4, bl_480_4, bm_480_4, true_and, and_true, false_and, and_false, or_false, false_or, true_or, or_true, not_true_eq_false, not_false_eq_true, iff_self] <;> grind
theorem jw19_5 {a : Int32} : (bt 5 a) ↔ bt 5 ((a &&& (24 : Int32)) ||| (a &&& (480 : Int32))) := by
  simp only [bt_or, bt_and, bt_znt, bt_zit, bt_zbo, is_1, is_2, is_4, is_8, is_16, is_20, is_24, is_32, is_64, is_96, is_128, is_152, is_160, is_256, is_288, is_384, is_512, bl_24_5, bm_24_5, bl_480_5, bm_480_5, true_and, and_true, false_and, and_false, or_false, false_or, true_or, or_true, not_true_eq_false, not_false_eq_true, iff_self] <;> grind
theorem jw19_6 {a : Int32} : (bt 6 a) ↔ bt 6 ((a &&& (24 : Int32)) ||| (a &&& (480 : Int32))) := by
  simp only [bt_or, bt_and, bt_znt, bt_zit, bt_zbo, is_1, is_2, is_4, is_8, is_16, is_20, is_24, is_32, is_64, is_96, is_128, is_152, is_160, is_256, is_288, is_384, is_512, bl_24_6, bm_24_6, bl_480_6, bm_480_6, true_and, and_true, false_and, and_false, or_false, false_or, true_or, or_true, not_true_eq_false, not_false_eq_true, iff_self] <;> grind
theorem jw19_7 {a : Int32} : (bt 7 a) ↔ bt 7 ((a &&& (24 : Int32)) ||| (a &&& (480 : Int32))) := by
  simp only [bt_or, bt_and, bt_znt, bt_zit, bt_zbo, is_1, is_2, is_4, is_8, is_16, is_20, is_24, is_32, is_64, is_96, is_128, is_152, is_160, is_256, is_288, is_384, is_512, bl_24_7, bm_24_7, bl_480_7, bm_480_7, true_and, and_true, false_and, and_false, or_false, false_or, true_or, or_true, not_true_eq_false, not_false_eq_true, iff_self] <;> grind
theorem jw19_8 {a : Int32} : (bt 8 a) ↔ bt 8 ((a &&& (24 : Int32)) ||| (a &&& (480 : Int32))) := by
  simp only [bt_or, bt_and, bt_znt, bt_zit, bt_zbo, is_1, is_2, is_4, is_8, is_16, is_20, is_24, is_32, is_64, is_96, is_128, is_152, is_160, is_256, is_288, is_384, is_512, bl_24_8, bm_24_8, bl_480_8, bm_480_8, true_and, and_true, false_and, and_false, or_false, false_or, true_or, or_true, not_true_eq_false, not_false_eq_true, iff_self] <;> grind
theorem jw19_9 {a : Int32} : ¬ bt 9 ((a &&& (24 : Int32)) ||| (a &&& (480 : Int32))) := by
  simp only [bt_or, bt_and, bt_znt, bt_zit, bt_zbo, is_1, is_2, is_4, is_8, is_16, is_20, is_24, is_32, is_64, is_96, is_128, is_152, is_160, is_256, is_288, is_384, is_512, bl_24_9, bm_24_9, bl_480_9, bm_480_9, true_and, and_true, false_and, and_false, or_false, false_or, true_or, or_true, not_true_eq_false, not_false_eq_true, iff_self] <;> grind
theorem jw19_c {p a : Int32} (hp : tB4 p) : (((p + 1) = 1)) ↔ ((p = 0)) := by
  rcases hp with rfl | rfl | rfl | rfl <;> simp [is_1, is_2, is_4]
theorem jw19_m {p a tx : Int32} : (bt 9 a) ↔ tyMx 19 0 [(p, a, tx)] := by
  rw [tyMx_1]
  simp only [nz_1, nz_2, nz_4, nz_8, bt_or, bl_0_0, bl_0_1, bl_0_2, bl_0_3, false_or, Classical.not_not]
  simp only [tog, mxb]
  grind
theorem jw19_l {p a tx : Int32} : (0 : Int32) ||| tx = lkL 19 0 ||| lkAll [(p, a, tx)] := by
  show _ = (0 : Int32) ||| ((0 : Int32) ||| tx)
  rw [Int32.zero_or]

theorem xj_W19 {d : Nat} {S : zS} (hF : zFin true S) (hd : 2 ≤ d) {n pl x : Nat} {p : Int32} {a : Int32} {tx : Int32} (hn0 : 1639 ≤ n) (hn : n < gN S) (hx : x < gN S) (hxn : x ≠ n) (hcx : zNc (ztyp S x) = true) (hN2 : gN S < 1900000) (htn : ztyp S n = 11) (how : gI S 160 n = Int32.ofNat 97) (hpx : gP S 161 n = some x) (hpl : gI S 144 n = Int32.ofNat pl) (hXx : xTy S x (p, a, tx)) (hm0 : gI S 156 n = 0) (ht0 : gI S 146 n = 0) (h4x : tB4 p) {post : Outcome × zS → Prop}
    (h1 : ∀ t S', zFin true S' → tyN 19 0 [(p, a, tx)] = some t → xJd S n S' → xTy S' n t → post (.returned none, S'))
    (h2 : tyN 19 0 [(p, a, tx)] = none → ∀ S' q, zFin true S' → xFn S n S' → xFl S' q 3 pl → gN S + 1 = gN S' ∧ gZ S' ≤ gZ S + 3 → post (.threw q, S')) : zCall d 293 [.ref n] S post := by
  have hm0' : gI S 156 n = zbo False := hm0.trans (zbo_neg id).symm
  refine wj_19 hF (by omega) n x p a tx hn0 hn hx hxn hcx hN2 htn how hpx hXx.1 hXx.2.1.1 hXx.2.1.2.1 hXx.2.1.2.2.1 hXx.2.1.2.2.2.1 hXx.2.1.2.2.2.2.1 hXx.2.1.2.2.2.2.2.1 hXx.2.1.2.2.2.2.2.2.1 hXx.2.1.2.2.2.2.2.2.2.1 hXx.2.1.2.2.2.2.2.2.2.2.1 hXx.2.1.2.2.2.2.2.2.2.2.2 hXx.2.2 hm0' ht0 (fun c0 => ?_) (fun c => ?_)
  · have hq : tyB 19 0 [(p, a, tx)] = some (3, (a &&& (24 : Int32)) ||| (a &&& (480 : Int32))) := (tyB_W (by omega) _).trans (zop_pos ((jw19_c h4x).mp c0))
    refine h1 _ _ (by first | exact hF | exact hF) (tyN_some hq) (xJd_s (xJd_s (xJd_s (xJd_s (xJd_s (xJd_s (xJd_s (xJd_s (xJd_s (xJd_s (xJd_s (xJd_s xJd.rf (by decide)) (by decide)) (by decide)) (by decide)) (by decide)) (by decide)) (by decide)) (by decide)) (by decide)) (by decide)) (by decide)) (by decide)) (xTy_mk (b := 3) (f := (a &&& (24 : Int32)) ||| (a &&& (480 : Int32))) (MX := tyMx 19 0 [(p, a, tx)]) (((gI_sI_nf (by decide)).trans ((gI_sI_nf (by decide)).trans ((gI_sI_nf (by decide)).trans ((gI_sI_nf (by decide)).trans ((gI_sI_nf (by decide)).trans ((gI_sI_nf (by decide)).trans ((gI_sI_nf (by decide)).trans ((gI_sI_nf (by decide)).trans ((gI_sI_nf (by decide)).trans ((gI_sI_nf (by decide)).trans ((gI_sI_nf (by decide)).trans (gI_sI_at)))))))))))).trans (show (4 : Int32) = 3 + 1 from by decide))
        (((gI_sI_nf (by decide)).trans ((gI_sI_nf (by decide)).trans ((gI_sI_nf (by decide)).trans ((gI_sI_nf (by decide)).trans ((gI_sI_nf (by decide)).trans ((gI_sI_nf (by decide)).trans ((gI_sI_nf (by decide)).trans ((gI_sI_nf (by decide)).trans ((gI_sI_nf (by decide)).trans ((gI_sI_nf (by decide)).trans (gI_sI_at))))))))))).trans (zbo_neg id).symm)
        (((gI_sI_nf (by decide)).trans ((gI_sI_nf (by decide)).trans ((gI_sI_nf (by decide)).trans ((gI_sI_nf (by decide)).trans ((gI_sI_nf (by decide)).trans ((gI_sI_nf (by decide)).trans ((gI_sI_nf (by decide)).trans ((gI_sI_nf (by decide)).trans ((gI_sI_nf (by decide)).trans (gI_sI_at)))))))))).trans (zbo_neg id).symm)
        (((gI_sI_nf (by decide)).trans ((gI_sI_nf (by decide)).trans ((gI_sI_nf (by decide)).trans ((gI_sI_nf (by decide)).trans ((gI_sI_nf (by decide)).trans ((gI_sI_nf (by decide)).trans ((gI_sI_nf (by decide)).trans ((gI_sI_nf (by decide)).trans (gI_sI_at))))))))).trans (zbo_neg id).symm)
        ((gI_sI_nf (by decide)).trans ((gI_sI_nf (by decide)).trans ((gI_sI_nf (by decide)).trans ((gI_sI_nf (by decide)).trans ((gI_sI_nf (by decide)).trans ((gI_sI_nf (by decide)).trans ((gI_sI_nf (by decide)).trans (gI_sI_at))))))))
        ((gI_sI_nf (by decide)).trans ((gI_sI_nf (by decide)).trans ((gI_sI_nf (by decide)).trans ((gI_sI_nf (by decide)).trans ((gI_sI_nf (by decide)).trans ((gI_sI_nf (by decide)).trans (gI_sI_at)))))))
        ((gI_sI_nf (by decide)).trans ((gI_sI_nf (by decide)).trans ((gI_sI_nf (by decide)).trans ((gI_sI_nf (by decide)).trans ((gI_sI_nf (by decide)).trans (gI_sI_at))))))
        ((gI_sI_nf (by decide)).trans ((gI_sI_nf (by decide)).trans ((gI_sI_nf (by decide)).trans ((gI_sI_nf (by decide)).trans (gI_sI_at)))))
        ((gI_sI_nf (by decide)).trans ((gI_sI_nf (by decide)).trans ((gI_sI_nf (by decide)).trans (gI_sI_at))))
        ((gI_sI_nf (by decide)).trans ((gI_sI_nf (by decide)).trans (gI_sI_at)))
        ((gI_sI_nf (by decide)).trans (gI_sI_at))
        (gI_sI_at) jw19_0 jw19_1 jw19_2 jw19_3 jw19_4 jw19_5 jw19_6 jw19_7 jw19_8 jw19_9 jw19_m jw19_l)
  · obtain ⟨g0, g1, g2, g3, g4⟩ := xF_new hF (by omega) hN2 3 3 pl rfl hpl
    exact h2 (tyN_none ((tyB_W (by omega) _).trans (zop_neg (fun x => c ((jw19_c h4x).mpr x))))) _ _ g0 g1.n g2 ⟨g3, g4⟩

theorem jw20_0 {a : Int32} : (False) ↔ bt 0 ((a &&& (24 : Int32)) ||| (a &&& (480 : Int32))) := by
  simp only [bt_or, bt_and, bt_znt, bt_zit, bt_zbo, is_1, is_2, is_4, is_8, is_16, is_20, is_24, is_32, is_64, is_96, is_128, is_152, is_160, is_256, is_288, is_384, is_512, bl_24_0, bm_24_0, bl_480_0, bm_480_0, true_and, and_true, false_and, and_false, or_false, false_or, true_or, or_true, not_true_eq_false, not_false_eq_true, iff_self] <;> grind
theorem jw20_1 {a : Int32} : (False) ↔ bt 1 ((a &&& (24 : Int32)) ||| (a &&& (480 : Int32))) := by
  simp only [bt_or, bt_and, bt_znt, bt_zit, bt_zbo, is_1, is_2, is_4, is_8, is_16, is_20, is_24, is_32, is_64, is_96, is_128, is_152, is_160, is_256, is_288, is_384, is_512, bl_24_1, bm_24_1, bl_480_1, bm_480_1, true_and, and_true, false_and, and_false, or_false, false_or, true_or, or_true, not_true_eq_false, not_false_eq_true, iff_self] <;> grind
theorem jw20_2 {a : Int32} : (False) ↔ bt 2 ((a &&& (24 : Int32)) ||| (a &&& (480 : Int32))) := by
  simp only [bt_or, bt_and, bt_znt, bt_zit, bt_zbo, is_1, is_2, is_4, is_8, is_16, is_20, is_24, is_32, is_64, is_96, is_128, is_152, is_160, is_256, is_288, is_384, is_512, bl_24_2, bm_24_2, bl_480_2, bm_480_2, true_and, and_true, false_and, and_false, or_false, false_or, true_or, or_true, not_true_eq_false, not_false_eq_true, iff_self] <;> grind
theorem jw20_3 {a : Int32} : (bt 3 a) ↔ bt 3 ((a &&& (24 : Int32)) ||| (a &&& (480 : Int32))) := by
  simp only [bt_or, bt_and, bt_znt, bt_zit, bt_zbo, is_1, is_2, is_4, is_8, is_16, is_20, is_24, is_32, is_64, is_96, is_128, is_152, is_160, is_256, is_288, is_384, is_512, bl_24_3, bm_24_3, bl_480_3, bm_480_3, true_and, and_true, false_and, and_false, or_false, false_or, true_or, or_true, not_true_eq_false, not_false_eq_true, iff_self] <;> grind
theorem jw20_4 {a : Int32} : (bt 4 a) ↔ bt 4 ((a &&& (24 : Int32)) ||| (a &&& (480 : Int32))) := by
  simp only [bt_or, bt_and, bt_znt, bt_zit, bt_zbo, is_1, is_2, is_4, is_8, is_16, is_20, is_24, is_32, is_64, is_96, is_128, is_152, is_160, is_256, is_288, is_384, is_512, bl_24_4, bm_24_4, bl_480_4, bm_480_4, true_and, and_true, false_and, and_false, or_false, false_or, true_or, or_true, not_true_eq_false, not_false_eq_true, iff_self] <;> grind
theorem jw20_5 {a : Int32} : (bt 5 a) ↔ bt 5 ((a &&& (24 : Int32)) ||| (a &&& (480 : Int32))) := by
  simp only [bt_or, bt_and, bt_znt, bt_zit, bt_zbo, is_1, is_2, is_4, is_8, is_16, is_20, is_24, is_32, is_64, is_96, is_128, is_152, is_160, is_256, is_288, is_384, is_512, bl_24_5, bm_24_5, bl_480_5, bm_480_5, true_and, and_true, false_and, and_false, or_false, false_or, true_or, or_true, not_true_eq_false, not_false_eq_true, iff_self] <;> grind
theorem jw20_6 {a : Int32} : (bt 6 a) ↔ bt 6 ((a &&& (24 : Int32)) ||| (a &&& (480 : Int32))) := by
  simp only [bt_or, bt_and, bt_znt, bt_zit, bt_zbo, is_1, is_2, is_4, is_8, is_16, is_20, is_24, is_32, is_64, is_96, is_128, is_152, is_160, is_256, is_288, is_384, is_512, bl_24_6, bm_24_6, bl_480_6, bm_480_6, true_and, and_true, false_and, and_false, or_false, false_or, true_or, or_true, not_true_eq_false, not_false_eq_true, iff_self] <;> grind
theorem jw20_7 {a : Int32} : (bt 7 a) ↔ bt 7 ((a &&& (24 : Int32)) ||| (a &&& (480 : Int32))) := by
  simp only [bt_or, bt_and, bt_znt, bt_zit, bt_zbo, is_1, is_2, is_4, is_8, is_16, is_20, is_24, is_32, is_64, is_96, is_128, is_152, is_160, is_256, is_288, is_384, is_512, bl_24_7, bm_24_7, bl_480_7, bm_480_7, true_and, and_true, false_and, and_false, or_false, false_or, true_or, or_true, not_true_eq_false, not_false_eq_true, iff_self] <;> grind
theorem jw20_8 {a : Int32} : (bt 8 a) ↔ bt 8 ((a &&& (24 : Int32)) ||| (a &&& (480 : Int32))) := by
  simp only [bt_or, bt_and, bt_znt, bt_zit, bt_zbo, is_1, is_2, is_4, is_8, is_16, is_20, is_24, is_32, is_64, is_96, is_128, is_152, is_160, is_256, is_288, is_384, is_512, bl_24_8, bm_24_8, bl_480_8, bm_480_8, true_and, and_true, false_and, and_false, or_false, false_or, true_or, or_true, not_true_eq_false, not_false_eq_true, iff_self] <;> grind
theorem jw20_9 {a : Int32} : ¬ bt 9 ((a &&& (24 : Int32)) ||| (a &&& (480 : Int32))) := by
  simp only [bt_or, bt_and, bt_znt, bt_zit, bt_zbo, is_1, is_2, is_4, is_8, is_16, is_20, is_24, is_32, is_64, is_96, is_128, is_152, is_160, is_256, is_288, is_384, is_512, bl_24_9, bm_24_9, bl_480_9, bm_480_9, true_and, and_true, false_and, and_false, or_false, false_or, true_or, or_true, not_true_eq_false, not_false_eq_true, iff_self] <;> grind
theorem jw20_c {p a : Int32} (hp : tB4 p) : ((((p + 1) = 1) ∧ (bt 1 a))) ↔ ((p = 0) ∧ ((a &&& (2 : Int32)) = 2)) := by
  rcases hp with rfl | rfl | rfl | rfl <;> simp [is_1, is_2, is_4]
theorem jw20_m {p a tx : Int32} : (bt 9 a) ↔ tyMx 20 0 [(p, a, tx)] := by
  rw [tyMx_1]
  simp only [nz_1, nz_2, nz_4, nz_8, bt_or, bl_0_0, bl_0_1, bl_0_2, bl_0_3, false_or, Classical.not_not]
  simp only [tog, mxb]
  grind
theorem jw20_l {p a tx : Int32} : (0 : Int32) ||| tx = lkL 20 0 ||| lkAll [(p, a, tx)] := by
  show _ = (0 : Int32) ||| ((0 : Int32) ||| tx)
  rw [Int32.zero_or]

theorem xj_W20 {d : Nat} {S : zS} (hF : zFin true S) (hd : 2 ≤ d) {n pl x : Nat} {p : Int32} {a : Int32} {tx : Int32} (hn0 : 1639 ≤ n) (hn : n < gN S) (hx : x < gN S) (hxn : x ≠ n) (hcx : zNc (ztyp S x) = true) (hN2 : gN S < 1900000) (htn : ztyp S n = 11) (how : gI S 160 n = Int32.ofNat 115) (hpx : gP S 161 n = some x) (hpl : gI S 144 n = Int32.ofNat pl) (hXx : xTy S x (p, a, tx)) (hm0 : gI S 156 n = 0) (ht0 : gI S 146 n = 0) (h4x : tB4 p) {post : Outcome × zS → Prop}
    (h1 : ∀ t S', zFin true S' → tyN 20 0 [(p, a, tx)] = some t → xJd S n S' → xTy S' n t → post (.returned none, S'))
    (h2 : tyN 20 0 [(p, a, tx)] = none → ∀ S' q, zFin true S' → xFn S n S' → xFl S' q 3 pl → gN S + 1 = gN S' ∧ gZ S' ≤ gZ S + 3 → post (.threw q, S')) : zCall d 293 [.ref n] S post := by
  have hm0' : gI S 156 n = zbo False := hm0.trans (zbo_neg id).symm
  refine wj_20 hF (by omega) n x p a tx hn0 hn hx hxn hcx hN2 htn how hpx hXx.1 hXx.2.1.1 hXx.2.1.2.1 hXx.2.1.2.2.1 hXx.2.1.2.2.2.1 hXx.2.1.2.2.2.2.1 hXx.2.1.2.2.2.2.2.1 hXx.2.1.2.2.2.2.2.2.1 hXx.2.1.2.2.2.2.2.2.2.1 hXx.2.1.2.2.2.2.2.2.2.2.1 hXx.2.1.2.2.2.2.2.2.2.2.2 hXx.2.2 hm0' ht0 (fun c0 => ?_) (fun c => ?_)
  · have hq : tyB 20 0 [(p, a, tx)] = some (3, (a &&& (24 : Int32)) ||| (a &&& (480 : Int32))) := (tyB_W (by omega) _).trans (zop_pos ((jw20_c h4x).mp c0))
    refine h1 _ _ (by first | exact hF | exact hF) (tyN_some hq) (xJd_s (xJd_s (xJd_s (xJd_s (xJd_s (xJd_s (xJd_s (xJd_s (xJd_s (xJd_s (xJd_s (xJd_s xJd.rf (by decide)) (by decide)) (by decide)) (by decide)) (by decide)) (by decide)) (by decide)) (by decide)) (by decide)) (by decide)) (by decide)) (by decide)) (xTy_mk (b := 3) (f := (a &&& (24 : Int32)) ||| (a &&& (480 : Int32))) (MX := tyMx 20 0 [(p, a, tx)]) (((gI_sI_nf (by decide)).trans ((gI_sI_nf (by decide)).trans ((gI_sI_nf (by decide)).trans ((gI_sI_nf (by decide)).trans ((gI_sI_nf (by decide)).trans ((gI_sI_nf (by decide)).trans ((gI_sI_nf (by decide)).trans ((gI_sI_nf (by decide)).trans ((gI_sI_nf (by decide)).trans ((gI_sI_nf (by decide)).trans ((gI_sI_nf (by decide)).trans (gI_sI_at)))))))))))).trans (show (4 : Int32) = 3 + 1 from by decide))
        (((gI_sI_nf (by decide)).trans ((gI_sI_nf (by decide)).trans ((gI_sI_nf (by decide)).trans ((gI_sI_nf (by decide)).trans ((gI_sI_nf (by decide)).trans ((gI_sI_nf (by decide)).trans ((gI_sI_nf (by decide)).trans ((gI_sI_nf (by decide)).trans ((gI_sI_nf (by decide)).trans ((gI_sI_nf (by decide)).trans (gI_sI_at))))))))))).trans (zbo_neg id).symm)
        (((gI_sI_nf (by decide)).trans ((gI_sI_nf (by decide)).trans ((gI_sI_nf (by decide)).trans ((gI_sI_nf (by decide)).trans ((gI_sI_nf (by decide)).trans ((gI_sI_nf (by decide)).trans ((gI_sI_nf (by decide)).trans ((gI_sI_nf (by decide)).trans ((gI_sI_nf (by decide)).trans (gI_sI_at)))))))))).trans (zbo_neg id).symm)
        (((gI_sI_nf (by decide)).trans ((gI_sI_nf (by decide)).trans ((gI_sI_nf (by decide)).trans ((gI_sI_nf (by decide)).trans ((gI_sI_nf (by decide)).trans ((gI_sI_nf (by decide)).trans ((gI_sI_nf (by decide)).trans ((gI_sI_nf (by decide)).trans (gI_sI_at))))))))).trans (zbo_neg id).symm)
        ((gI_sI_nf (by decide)).trans ((gI_sI_nf (by decide)).trans ((gI_sI_nf (by decide)).trans ((gI_sI_nf (by decide)).trans ((gI_sI_nf (by decide)).trans ((gI_sI_nf (by decide)).trans ((gI_sI_nf (by decide)).trans (gI_sI_at))))))))
        ((gI_sI_nf (by decide)).trans ((gI_sI_nf (by decide)).trans ((gI_sI_nf (by decide)).trans ((gI_sI_nf (by decide)).trans ((gI_sI_nf (by decide)).trans ((gI_sI_nf (by decide)).trans (gI_sI_at)))))))
        ((gI_sI_nf (by decide)).trans ((gI_sI_nf (by decide)).trans ((gI_sI_nf (by decide)).trans ((gI_sI_nf (by decide)).trans ((gI_sI_nf (by decide)).trans (gI_sI_at))))))
        ((gI_sI_nf (by decide)).trans ((gI_sI_nf (by decide)).trans ((gI_sI_nf (by decide)).trans ((gI_sI_nf (by decide)).trans (gI_sI_at)))))
        ((gI_sI_nf (by decide)).trans ((gI_sI_nf (by decide)).trans ((gI_sI_nf (by decide)).trans (gI_sI_at))))
        ((gI_sI_nf (by decide)).trans ((gI_sI_nf (by decide)).trans (gI_sI_at)))
        ((gI_sI_nf (by decide)).trans (gI_sI_at))
        (gI_sI_at) jw20_0 jw20_1 jw20_2 jw20_3 jw20_4 jw20_5 jw20_6 jw20_7 jw20_8 jw20_9 jw20_m jw20_l)
  · obtain ⟨g0, g1, g2, g3, g4⟩ := xF_new hF (by omega) hN2 3 3 pl rfl hpl
    exact h2 (tyN_none ((tyB_W (by omega) _).trans (zop_neg (fun x => c ((jw20_c h4x).mpr x))))) _ _ g0 g1.n g2 ⟨g3, g4⟩

theorem jw21_0 {a : Int32} : (False) ↔ bt 0 (((a &&& (14 : Int32)) ||| (16 : Int32)) ||| (a &&& (480 : Int32))) := by
  simp only [bt_or, bt_and, bt_znt, bt_zit, bt_zbo, is_1, is_2, is_4, is_8, is_16, is_20, is_24, is_32, is_64, is_96, is_128, is_152, is_160, is_256, is_288, is_384, is_512, bl_14_0, bm_14_0, bl_16_0, bm_16_0, bl_480_0, bm_480_0, true_and, and_true, false_and, and_false, or_false, false_or, true_or, or_true, not_true_eq_false, not_false_eq_true, iff_self] <;> grind
theorem jw21_1 {a : Int32} : (bt 1 a) ↔ bt 1 (((a &&& (14 : Int32)) ||| (16 : Int32)) ||| (a &&& (480 : Int32))) := by
  simp only [bt_or, bt_and, bt_znt, bt_zit, bt_zbo, is_1, is_2, is_4, is_8, is_16, is_20, is_24, is_32, is_64, is_96, is_128, is_152, is_160, is_256, is_288, is_384, is_512, bl_14_1, bm_14_1, bl_16_1, bm_16_1, bl_480_1, bm_480_1, true_and, and_true, false_and, and_false, or_false, false_or, true_or, or_true, not_true_eq_false, not_false_eq_true, iff_self] <;> grind
theorem jw21_2 {a : Int32} : (bt 2 a) ↔ bt 2 (((a &&& (14 : Int32)) ||| (16 : Int32)) ||| (a &&& (480 : Int32))) := by
  simp only [bt_or, bt_and, bt_znt, bt_zit, bt_zbo, is_1, is_2, is_4, is_8, is_16, is_20, is_24, is_32, is_64, is_96, is_128, is_152, is_160, is_256, is_288, is_384, is_512, bl_14_2, bm_14_2, bl_16_2, bm_16_2, bl_480_2, bm_480_2, true_and, and_true, false_and, and_false, or_false, false_or, true_or, or_true, not_true_eq_false, not_false_eq_true, iff_self] <;> grind
theorem jw21_3 {a : Int32} : (bt 3 a) ↔ bt 3 (((a &&& (14 : Int32)) ||| (16 : Int32)) ||| (a &&& (480 : Int32))) := by
  simp only [bt_or, bt_and, bt_znt, bt_zit, bt_zbo, is_1, is_2, is_4, is_8, is_16, is_20, is_24, is_32, is_64, is_96, is_128, is_152, is_160, is_256, is_288, is_384, is_512, bl_14_3, bm_14_3, bl_16_3, bm_16_3, bl_480_3, bm_480_3, true_and, and_true, false_and, and_false, or_false, false_or, true_or, or_true, not_true_eq_false, not_false_eq_true, iff_self] <;> grind
theorem jw21_4 {a : Int32} : (True) ↔ bt 4 (((a &&& (14 : Int32)) ||| (16 : Int32)) ||| (a &&& (480 : Int32))) := by
  simp only [bt_or, bt_and, bt_znt, bt_zit, bt_zbo, is_1, is_2, is_4, is_8, is_16, is_20, is_24, is_32, is_64, is_96, is_128, is_152, is_160, is_256, is_288, is_384, is_512, bl_14_4, bm_14_4, bl_16_4, bm_16_4, bl_480_4, bm_480_4, true_and, and_true, false_and, and_false, or_false, false_or, true_or, or_true, not_true_eq_false, not_false_eq_true, iff_self] <;> grind
theorem jw21_5 {a : Int32} : (bt 5 a) ↔ bt 5 (((a &&& (14 : Int32)) ||| (16 : Int32)) ||| (a &&& (480 : Int32))) := by
  simp only [bt_or, bt_and, bt_znt, bt_zit, bt_zbo, is_1, is_2, is_4, is_8, is_16, is_20, is_24, is_32, is_64, is_96, is_128, is_152, is_160, is_256, is_288, is_384, is_512, bl_14_5, bm_14_5, bl_16_5, bm_16_5, bl_480_5, bm_480_5, true_and, and_true, false_and, and_false, or_false, false_or, true_or, or_true, not_true_eq_false, not_false_eq_true, iff_self] <;> grind
theorem jw21_6 {a : Int32} : (bt 6 a) ↔ bt 6 (((a &&& (14 : Int32)) ||| (16 : Int32)) ||| (a &&& (480 : Int32))) := by
  simp only [bt_or, bt_and, bt_znt, bt_zit, bt_zbo, is_1, is_2, is_4, is_8, is_16, is_20, is_24, is_32, is_64, is_96, is_128, is_152, is_160, is_256, is_288, is_384, is_512, bl_14_6, bm_14_6, bl_16_6, bm_16_6, bl_480_6, bm_480_6, true_and, and_true, false_and, and_false, or_false, false_or, true_or, or_true, not_true_eq_false, not_false_eq_true, iff_self] <;> grind
theorem jw21_7 {a : Int32} : (bt 7 a) ↔ bt 7 (((a &&& (14 : Int32)) ||| (16 : Int32)) ||| (a &&& (480 : Int32))) := by
  simp only [bt_or, bt_and, bt_znt, bt_zit, bt_zbo, is_1, is_2, is_4, is_8, is_16, is_20, is_24, is_32, is_64, is_96, is_128, is_152, is_160, is_256, is_288, is_384, is_512, bl_14_7, bm_14_7, bl_16_7, bm_16_7, bl_480_7, bm_480_7, true_and, and_true, false_and, and_false, or_false, false_or, true_or, or_true, not_true_eq_false, not_false_eq_true, iff_self] <;> grind
theorem jw21_8 {a : Int32} : (bt 8 a) ↔ bt 8 (((a &&& (14 : Int32)) ||| (16 : Int32)) ||| (a &&& (480 : Int32))) := by
  simp only [bt_or, bt_and, bt_znt, bt_zit, bt_zbo, is_1, is_2, is_4, is_8, is_16, is_20, is_24, is_32, is_64, is_96, is_128, is_152, is_160, is_256, is_288, is_384, is_512, bl_14_8, bm_14_8, bl_16_8, bm_16_8, bl_480_8, bm_480_8, true_and, and_true, false_and, and_false, or_false, false_or, true_or, or_true, not_true_eq_false, not_false_eq_true, iff_self] <;> grind
theorem jw21_9 {a : Int32} : ¬ bt 9 (((a &&& (14 : Int32)) ||| (16 : Int32)) ||| (a &&& (480 : Int32))) := by
  simp only [bt_or, bt_and, bt_znt, bt_zit, bt_zbo, is_1, is_2, is_4, is_8, is_16, is_20, is_24, is_32, is_64, is_96, is_128, is_152, is_160, is_256, is_288, is_384, is_512, bl_14_9, bm_14_9, bl_16_9, bm_16_9, bl_480_9, bm_480_9, true_and, and_true, false_and, and_false, or_false, false_or, true_or, or_true, not_true_eq_false, not_false_eq_true, iff_self] <;> grind
theorem jw21_c {p a : Int32} (hp : tB4 p) : (((p + 1) = 3)) ↔ ((p = 2)) := by
  rcases hp with rfl | rfl | rfl | rfl <;> simp [is_1, is_2, is_4]
theorem jw21_m {p a tx : Int32} : (bt 9 a) ↔ tyMx 21 0 [(p, a, tx)] := by
  rw [tyMx_1]
  simp only [nz_1, nz_2, nz_4, nz_8, bt_or, bl_0_0, bl_0_1, bl_0_2, bl_0_3, false_or, Classical.not_not]
  simp only [tog, mxb]
  grind
theorem jw21_l {p a tx : Int32} : (0 : Int32) ||| tx = lkL 21 0 ||| lkAll [(p, a, tx)] := by
  show _ = (0 : Int32) ||| ((0 : Int32) ||| tx)
  rw [Int32.zero_or]

theorem xj_W21 {d : Nat} {S : zS} (hF : zFin true S) (hd : 2 ≤ d) {n pl x : Nat} {p : Int32} {a : Int32} {tx : Int32} (hn0 : 1639 ≤ n) (hn : n < gN S) (hx : x < gN S) (hxn : x ≠ n) (hcx : zNc (ztyp S x) = true) (hN2 : gN S < 1900000) (htn : ztyp S n = 11) (how : gI S 160 n = Int32.ofNat 99) (hpx : gP S 161 n = some x) (hpl : gI S 144 n = Int32.ofNat pl) (hXx : xTy S x (p, a, tx)) (hm0 : gI S 156 n = 0) (ht0 : gI S 146 n = 0) (h4x : tB4 p) {post : Outcome × zS → Prop}
    (h1 : ∀ t S', zFin true S' → tyN 21 0 [(p, a, tx)] = some t → xJd S n S' → xTy S' n t → post (.returned none, S'))
    (h2 : tyN 21 0 [(p, a, tx)] = none → ∀ S' q, zFin true S' → xFn S n S' → xFl S' q 3 pl → gN S + 1 = gN S' ∧ gZ S' ≤ gZ S + 3 → post (.threw q, S')) : zCall d 293 [.ref n] S post := by
  have hm0' : gI S 156 n = zbo False := hm0.trans (zbo_neg id).symm
  refine wj_21 hF (by omega) n x p a tx hn0 hn hx hxn hcx hN2 htn how hpx hXx.1 hXx.2.1.1 hXx.2.1.2.1 hXx.2.1.2.2.1 hXx.2.1.2.2.2.1 hXx.2.1.2.2.2.2.1 hXx.2.1.2.2.2.2.2.1 hXx.2.1.2.2.2.2.2.2.1 hXx.2.1.2.2.2.2.2.2.2.1 hXx.2.1.2.2.2.2.2.2.2.2.1 hXx.2.1.2.2.2.2.2.2.2.2.2 hXx.2.2 hm0' ht0 (fun c0 => ?_) (fun c => ?_)
  · have hq : tyB 21 0 [(p, a, tx)] = some (0, ((a &&& (14 : Int32)) ||| (16 : Int32)) ||| (a &&& (480 : Int32))) := (tyB_W (by omega) _).trans (zop_pos ((jw21_c h4x).mp c0))
    refine h1 _ _ (by first | exact hF | exact hF) (tyN_some hq) (xJd_s (xJd_s (xJd_s (xJd_s (xJd_s (xJd_s (xJd_s (xJd_s (xJd_s (xJd_s (xJd_s (xJd_s xJd.rf (by decide)) (by decide)) (by decide)) (by decide)) (by decide)) (by decide)) (by decide)) (by decide)) (by decide)) (by decide)) (by decide)) (by decide)) (xTy_mk (b := 0) (f := ((a &&& (14 : Int32)) ||| (16 : Int32)) ||| (a &&& (480 : Int32))) (MX := tyMx 21 0 [(p, a, tx)]) (((gI_sI_nf (by decide)).trans ((gI_sI_nf (by decide)).trans ((gI_sI_nf (by decide)).trans ((gI_sI_nf (by decide)).trans ((gI_sI_nf (by decide)).trans ((gI_sI_nf (by decide)).trans ((gI_sI_nf (by decide)).trans ((gI_sI_nf (by decide)).trans ((gI_sI_nf (by decide)).trans ((gI_sI_nf (by decide)).trans ((gI_sI_nf (by decide)).trans (gI_sI_at)))))))))))).trans (show (1 : Int32) = 0 + 1 from by decide))
        (((gI_sI_nf (by decide)).trans ((gI_sI_nf (by decide)).trans ((gI_sI_nf (by decide)).trans ((gI_sI_nf (by decide)).trans ((gI_sI_nf (by decide)).trans ((gI_sI_nf (by decide)).trans ((gI_sI_nf (by decide)).trans ((gI_sI_nf (by decide)).trans ((gI_sI_nf (by decide)).trans ((gI_sI_nf (by decide)).trans (gI_sI_at))))))))))).trans (zbo_neg id).symm)
        ((gI_sI_nf (by decide)).trans ((gI_sI_nf (by decide)).trans ((gI_sI_nf (by decide)).trans ((gI_sI_nf (by decide)).trans ((gI_sI_nf (by decide)).trans ((gI_sI_nf (by decide)).trans ((gI_sI_nf (by decide)).trans ((gI_sI_nf (by decide)).trans ((gI_sI_nf (by decide)).trans (gI_sI_at))))))))))
        ((gI_sI_nf (by decide)).trans ((gI_sI_nf (by decide)).trans ((gI_sI_nf (by decide)).trans ((gI_sI_nf (by decide)).trans ((gI_sI_nf (by decide)).trans ((gI_sI_nf (by decide)).trans ((gI_sI_nf (by decide)).trans ((gI_sI_nf (by decide)).trans (gI_sI_at)))))))))
        ((gI_sI_nf (by decide)).trans ((gI_sI_nf (by decide)).trans ((gI_sI_nf (by decide)).trans ((gI_sI_nf (by decide)).trans ((gI_sI_nf (by decide)).trans ((gI_sI_nf (by decide)).trans ((gI_sI_nf (by decide)).trans (gI_sI_at))))))))
        (((gI_sI_nf (by decide)).trans ((gI_sI_nf (by decide)).trans ((gI_sI_nf (by decide)).trans ((gI_sI_nf (by decide)).trans ((gI_sI_nf (by decide)).trans ((gI_sI_nf (by decide)).trans (gI_sI_at))))))).trans (zbo_pos trivial).symm)
        ((gI_sI_nf (by decide)).trans ((gI_sI_nf (by decide)).trans ((gI_sI_nf (by decide)).trans ((gI_sI_nf (by decide)).trans ((gI_sI_nf (by decide)).trans (gI_sI_at))))))
        ((gI_sI_nf (by decide)).trans ((gI_sI_nf (by decide)).trans ((gI_sI_nf (by decide)).trans ((gI_sI_nf (by decide)).trans (gI_sI_at)))))
        ((gI_sI_nf (by decide)).trans ((gI_sI_nf (by decide)).trans ((gI_sI_nf (by decide)).trans (gI_sI_at))))
        ((gI_sI_nf (by decide)).trans ((gI_sI_nf (by decide)).trans (gI_sI_at)))
        ((gI_sI_nf (by decide)).trans (gI_sI_at))
        (gI_sI_at) jw21_0 jw21_1 jw21_2 jw21_3 jw21_4 jw21_5 jw21_6 jw21_7 jw21_8 jw21_9 jw21_m jw21_l)
  · obtain ⟨g0, g1, g2, g3, g4⟩ := xF_new hF (by omega) hN2 3 3 pl rfl hpl
    exact h2 (tyN_none ((tyB_W (by omega) _).trans (zop_neg (fun x => c ((jw21_c h4x).mpr x))))) _ _ g0 g1.n g2 ⟨g3, g4⟩

theorem jw22_0 {a : Int32} : (False) ↔ bt 0 (((14 : Int32) ||| (a &&& (288 : Int32))) ||| (128 : Int32)) := by
  simp only [bt_or, bt_and, bt_znt, bt_zit, bt_zbo, is_1, is_2, is_4, is_8, is_16, is_20, is_24, is_32, is_64, is_96, is_128, is_152, is_160, is_256, is_288, is_384, is_512, bl_14_0, bm_14_0, bl_128_0, bm_128_0, bl_288_0, bm_288_0, true_and, and_true, false_and, and_false, or_false, false_or, true_or, or_true, not_true_eq_false, not_false_eq_true, iff_self] <;> grind
theorem jw22_1 {a : Int32} : (True) ↔ bt 1 (((14 : Int32) ||| (a &&& (288 : Int32))) ||| (128 : Int32)) := by
  simp only [bt_or, bt_and, bt_znt, bt_zit, bt_zbo, is_1, is_2, is_4, is_8, is_16, is_20, is_24, is_32, is_64, is_96, is_128, is_152, is_160, is_256, is_288, is_384, is_512, bl_14_1, bm_14_1, bl_128_1, bm_128_1, bl_288_1, bm_288_1, true_and, and_true, false_and, and_false, or_false, false_or, true_or, or_true, not_true_eq_false, not_false_eq_true, iff_self] <;> grind
theorem jw22_2 {a : Int32} : (True) ↔ bt 2 (((14 : Int32) ||| (a &&& (288 : Int32))) ||| (128 : Int32)) := by
  simp only [bt_or, bt_and, bt_znt, bt_zit, bt_zbo, is_1, is_2, is_4, is_8, is_16, is_20, is_24, is_32, is_64, is_96, is_128, is_152, is_160, is_256, is_288, is_384, is_512, bl_14_2, bm_14_2, bl_128_2, bm_128_2, bl_288_2, bm_288_2, true_and, and_true, false_and, and_false, or_false, false_or, true_or, or_true, not_true_eq_false, not_false_eq_true, iff_self] <;> grind
theorem jw22_3 {a : Int32} : (True) ↔ bt 3 (((14 : Int32) ||| (a &&& (288 : Int32))) ||| (128 : Int32)) := by
  simp only [bt_or, bt_and, bt_znt, bt_zit, bt_zbo, is_1, is_2, is_4, is_8, is_16, is_20, is_24, is_32, is_64, is_96, is_128, is_152, is_160, is_256, is_288, is_384, is_512, bl_14_3, bm_14_3, bl_128_3, bm_128_3, bl_288_3, bm_288_3, true_and, and_true, false_and, and_false, or_false, false_or, true_or, or_true, not_true_eq_false, not_false_eq_true, iff_self] <;> grind
theorem jw22_4 {a : Int32} : (False) ↔ bt 4 (((14 : Int32) ||| (a &&& (288 : Int32))) ||| (128 : Int32)) := by
  simp only [bt_or, bt_and, bt_znt, bt_zit, bt_zbo, is_1, is_2, is_4, is_8, is_16, is_20, is_24, is_32, is_64, is_96, is_128, is_152, is_160, is_256, is_288, is_384, is_512, bl_14_4, bm_14_4, bl_128_4, bm_128_4, bl_288_4, bm_288_4, true_and, and_true, false_and, and_false, or_false, false_or, true_or, or_true, not_true_eq_false, not_false_eq_true, iff_self] <;> grind
theorem jw22_5 {a : Int32} : (bt 5 a) ↔ bt 5 (((14 : Int32) ||| (a &&& (288 : Int32))) ||| (128 : Int32)) := by
  simp only [bt_or, bt_and, bt_znt, bt_zit, bt_zbo, is_1, is_2, is_4, is_8, is_16, is_20, is_24, is_32, is_64, is_96, is_128, is_152, is_160, is_256, is_288, is_384, is_512, bl_14_5, bm_14_5, bl_128_5, bm_128_5, bl_288_5, bm_288_5, true_and, and_true, false_and, and_false, or_false, false_or, true_or, or_true, not_true_eq_false, not_false_eq_true, iff_self] <;> grind
theorem jw22_6 {a : Int32} : (False) ↔ bt 6 (((14 : Int32) ||| (a &&& (288 : Int32))) ||| (128 : Int32)) := by
  simp only [bt_or, bt_and, bt_znt, bt_zit, bt_zbo, is_1, is_2, is_4, is_8, is_16, is_20, is_24, is_32, is_64, is_96, is_128, is_152, is_160, is_256, is_288, is_384, is_512, bl_14_6, bm_14_6, bl_128_6, bm_128_6, bl_288_6, bm_288_6, true_and, and_true, false_and, and_false, or_false, false_or, true_or, or_true, not_true_eq_false, not_false_eq_true, iff_self] <;> grind
theorem jw22_7 {a : Int32} : (True) ↔ bt 7 (((14 : Int32) ||| (a &&& (288 : Int32))) ||| (128 : Int32)) := by
  simp only [bt_or, bt_and, bt_znt, bt_zit, bt_zbo, is_1, is_2, is_4, is_8, is_16, is_20, is_24, is_32, is_64, is_96, is_128, is_152, is_160, is_256, is_288, is_384, is_512, bl_14_7, bm_14_7, bl_128_7, bm_128_7, bl_288_7, bm_288_7, true_and, and_true, false_and, and_false, or_false, false_or, true_or, or_true, not_true_eq_false, not_false_eq_true, iff_self] <;> grind
theorem jw22_8 {a : Int32} : (bt 8 a) ↔ bt 8 (((14 : Int32) ||| (a &&& (288 : Int32))) ||| (128 : Int32)) := by
  simp only [bt_or, bt_and, bt_znt, bt_zit, bt_zbo, is_1, is_2, is_4, is_8, is_16, is_20, is_24, is_32, is_64, is_96, is_128, is_152, is_160, is_256, is_288, is_384, is_512, bl_14_8, bm_14_8, bl_128_8, bm_128_8, bl_288_8, bm_288_8, true_and, and_true, false_and, and_false, or_false, false_or, true_or, or_true, not_true_eq_false, not_false_eq_true, iff_self] <;> grind
theorem jw22_9 {a : Int32} : ¬ bt 9 (((14 : Int32) ||| (a &&& (288 : Int32))) ||| (128 : Int32)) := by
  simp only [bt_or, bt_and, bt_znt, bt_zit, bt_zbo, is_1, is_2, is_4, is_8, is_16, is_20, is_24, is_32, is_64, is_96, is_128, is_152, is_160, is_256, is_288, is_384, is_512, bl_14_9, bm_14_9, bl_128_9, bm_128_9, bl_288_9, bm_288_9, true_and, and_true, false_and, and_false, or_false, false_or, true_or, or_true, not_true_eq_false, not_false_eq_true, iff_self] <;> grind
theorem jw22_c {p a : Int32} (hp : tB4 p) : ((((p + 1) = 2) ∧ (bt 0 a))) ↔ ((p = 1) ∧ ((a &&& (1 : Int32)) = 1)) := by
  rcases hp with rfl | rfl | rfl | rfl <;> simp [is_1, is_2, is_4]
theorem jw22_m {p a tx : Int32} : (bt 9 a) ↔ tyMx 22 0 [(p, a, tx)] := by
  rw [tyMx_1]
  simp only [nz_1, nz_2, nz_4, nz_8, bt_or, bl_0_0, bl_0_1, bl_0_2, bl_0_3, false_or, Classical.not_not]
  simp only [tog, mxb]
  grind
theorem jw22_l {p a tx : Int32} : (0 : Int32) ||| tx = lkL 22 0 ||| lkAll [(p, a, tx)] := by
  show _ = (0 : Int32) ||| ((0 : Int32) ||| tx)
  rw [Int32.zero_or]

theorem xj_W22 {d : Nat} {S : zS} (hF : zFin true S) (hd : 2 ≤ d) {n pl x : Nat} {p : Int32} {a : Int32} {tx : Int32} (hn0 : 1639 ≤ n) (hn : n < gN S) (hx : x < gN S) (hxn : x ≠ n) (hcx : zNc (ztyp S x) = true) (hN2 : gN S < 1900000) (htn : ztyp S n = 11) (how : gI S 160 n = Int32.ofNat 100) (hpx : gP S 161 n = some x) (hpl : gI S 144 n = Int32.ofNat pl) (hXx : xTy S x (p, a, tx)) (hm0 : gI S 156 n = 0) (ht0 : gI S 146 n = 0) (h4x : tB4 p) {post : Outcome × zS → Prop}
    (h1 : ∀ t S', zFin true S' → tyN 22 0 [(p, a, tx)] = some t → xJd S n S' → xTy S' n t → post (.returned none, S'))
    (h2 : tyN 22 0 [(p, a, tx)] = none → ∀ S' q, zFin true S' → xFn S n S' → xFl S' q 3 pl → gN S + 1 = gN S' ∧ gZ S' ≤ gZ S + 3 → post (.threw q, S')) : zCall d 293 [.ref n] S post := by
  have hm0' : gI S 156 n = zbo False := hm0.trans (zbo_neg id).symm
  refine wj_22 hF (by omega) n x p a tx hn0 hn hx hxn hcx hN2 htn how hpx hXx.1 hXx.2.1.1 hXx.2.1.2.1 hXx.2.1.2.2.1 hXx.2.1.2.2.2.1 hXx.2.1.2.2.2.2.1 hXx.2.1.2.2.2.2.2.1 hXx.2.1.2.2.2.2.2.2.1 hXx.2.1.2.2.2.2.2.2.2.1 hXx.2.1.2.2.2.2.2.2.2.2.1 hXx.2.1.2.2.2.2.2.2.2.2.2 hXx.2.2 hm0' ht0 (fun c0 => ?_) (fun c => ?_)
  · have hq : tyB 22 0 [(p, a, tx)] = some (0, ((14 : Int32) ||| (a &&& (288 : Int32))) ||| (128 : Int32)) := (tyB_W (by omega) _).trans (zop_pos ((jw22_c h4x).mp c0))
    refine h1 _ _ (by first | exact hF | exact hF) (tyN_some hq) (xJd_s (xJd_s (xJd_s (xJd_s (xJd_s (xJd_s (xJd_s (xJd_s (xJd_s (xJd_s (xJd_s (xJd_s xJd.rf (by decide)) (by decide)) (by decide)) (by decide)) (by decide)) (by decide)) (by decide)) (by decide)) (by decide)) (by decide)) (by decide)) (by decide)) (xTy_mk (b := 0) (f := ((14 : Int32) ||| (a &&& (288 : Int32))) ||| (128 : Int32)) (MX := tyMx 22 0 [(p, a, tx)]) (((gI_sI_nf (by decide)).trans ((gI_sI_nf (by decide)).trans ((gI_sI_nf (by decide)).trans ((gI_sI_nf (by decide)).trans ((gI_sI_nf (by decide)).trans ((gI_sI_nf (by decide)).trans ((gI_sI_nf (by decide)).trans ((gI_sI_nf (by decide)).trans ((gI_sI_nf (by decide)).trans ((gI_sI_nf (by decide)).trans ((gI_sI_nf (by decide)).trans (gI_sI_at)))))))))))).trans (show (1 : Int32) = 0 + 1 from by decide))
        (((gI_sI_nf (by decide)).trans ((gI_sI_nf (by decide)).trans ((gI_sI_nf (by decide)).trans ((gI_sI_nf (by decide)).trans ((gI_sI_nf (by decide)).trans ((gI_sI_nf (by decide)).trans ((gI_sI_nf (by decide)).trans ((gI_sI_nf (by decide)).trans ((gI_sI_nf (by decide)).trans ((gI_sI_nf (by decide)).trans (gI_sI_at))))))))))).trans (zbo_neg id).symm)
        (((gI_sI_nf (by decide)).trans ((gI_sI_nf (by decide)).trans ((gI_sI_nf (by decide)).trans ((gI_sI_nf (by decide)).trans ((gI_sI_nf (by decide)).trans ((gI_sI_nf (by decide)).trans ((gI_sI_nf (by decide)).trans ((gI_sI_nf (by decide)).trans ((gI_sI_nf (by decide)).trans (gI_sI_at)))))))))).trans (zbo_pos trivial).symm)
        (((gI_sI_nf (by decide)).trans ((gI_sI_nf (by decide)).trans ((gI_sI_nf (by decide)).trans ((gI_sI_nf (by decide)).trans ((gI_sI_nf (by decide)).trans ((gI_sI_nf (by decide)).trans ((gI_sI_nf (by decide)).trans ((gI_sI_nf (by decide)).trans (gI_sI_at))))))))).trans (zbo_pos trivial).symm)
        (((gI_sI_nf (by decide)).trans ((gI_sI_nf (by decide)).trans ((gI_sI_nf (by decide)).trans ((gI_sI_nf (by decide)).trans ((gI_sI_nf (by decide)).trans ((gI_sI_nf (by decide)).trans ((gI_sI_nf (by decide)).trans (gI_sI_at)))))))).trans (zbo_pos trivial).symm)
        (((gI_sI_nf (by decide)).trans ((gI_sI_nf (by decide)).trans ((gI_sI_nf (by decide)).trans ((gI_sI_nf (by decide)).trans ((gI_sI_nf (by decide)).trans ((gI_sI_nf (by decide)).trans (gI_sI_at))))))).trans (zbo_neg id).symm)
        ((gI_sI_nf (by decide)).trans ((gI_sI_nf (by decide)).trans ((gI_sI_nf (by decide)).trans ((gI_sI_nf (by decide)).trans ((gI_sI_nf (by decide)).trans (gI_sI_at))))))
        (((gI_sI_nf (by decide)).trans ((gI_sI_nf (by decide)).trans ((gI_sI_nf (by decide)).trans ((gI_sI_nf (by decide)).trans (gI_sI_at))))).trans (zbo_neg id).symm)
        (((gI_sI_nf (by decide)).trans ((gI_sI_nf (by decide)).trans ((gI_sI_nf (by decide)).trans (gI_sI_at)))).trans (zbo_pos trivial).symm)
        ((gI_sI_nf (by decide)).trans ((gI_sI_nf (by decide)).trans (gI_sI_at)))
        ((gI_sI_nf (by decide)).trans (gI_sI_at))
        (gI_sI_at) jw22_0 jw22_1 jw22_2 jw22_3 jw22_4 jw22_5 jw22_6 jw22_7 jw22_8 jw22_9 jw22_m jw22_l)
  · obtain ⟨g0, g1, g2, g3, g4⟩ := xF_new hF (by omega) hN2 3 3 pl rfl hpl
    exact h2 (tyN_none ((tyB_W (by omega) _).trans (zop_neg (fun x => c ((jw22_c h4x).mpr x))))) _ _ g0 g1.n g2 ⟨g3, g4⟩

theorem jw23_0 {a : Int32} : (bt 0 a) ↔ bt 0 (((a &&& (7 : Int32)) ||| (a &&& (288 : Int32))) ||| (64 : Int32)) := by
  simp only [bt_or, bt_and, bt_znt, bt_zit, bt_zbo, is_1, is_2, is_4, is_8, is_16, is_20, is_24, is_32, is_64, is_96, is_128, is_152, is_160, is_256, is_288, is_384, is_512, bl_7_0, bm_7_0, bl_64_0, bm_64_0, bl_288_0, bm_288_0, true_and, and_true, false_and, and_false, or_false, false_or, true_or, or_true, not_true_eq_false, not_false_eq_true, iff_self] <;> grind
theorem jw23_1 {a : Int32} : (bt 1 a) ↔ bt 1 (((a &&& (7 : Int32)) ||| (a &&& (288 : Int32))) ||| (64 : Int32)) := by
  simp only [bt_or, bt_and, bt_znt, bt_zit, bt_zbo, is_1, is_2, is_4, is_8, is_16, is_20, is_24, is_32, is_64, is_96, is_128, is_152, is_160, is_256, is_288, is_384, is_512, bl_7_1, bm_7_1, bl_64_1, bm_64_1, bl_288_1, bm_288_1, true_and, and_true, false_and, and_false, or_false, false_or, true_or, or_true, not_true_eq_false, not_false_eq_true, iff_self] <;> grind
theorem jw23_2 {a : Int32} : (bt 2 a) ↔ bt 2 (((a &&& (7 : Int32)) ||| (a &&& (288 : Int32))) ||| (64 : Int32)) := by
  simp only [bt_or, bt_and, bt_znt, bt_zit, bt_zbo, is_1, is_2, is_4, is_8, is_16, is_20, is_24, is_32, is_64, is_96, is_128, is_152, is_160, is_256, is_288, is_384, is_512, bl_7_2, bm_7_2, bl_64_2, bm_64_2, bl_288_2, bm_288_2, true_and, and_true, false_and, and_false, or_false, false_or, true_or, or_true, not_true_eq_false, not_false_eq_true, iff_self] <;> grind
theorem jw23_3 {a : Int32} : (False) ↔ bt 3 (((a &&& (7 : Int32)) ||| (a &&& (288 : Int32))) ||| (64 : Int32)) := by
  simp only [bt_or, bt_and, bt_znt, bt_zit, bt_zbo, is_1, is_2, is_4, is_8, is_16, is_20, is_24, is_32, is_64, is_96, is_128, is_152, is_160, is_256, is_288, is_384, is_512, bl_7_3, bm_7_3, bl_64_3, bm_64_3, bl_288_3, bm_288_3, true_and, and_true, false_and, and_false, or_false, false_or, true_or, or_true, not_true_eq_false, not_false_eq_true, iff_self] <;> grind
theorem jw23_4 {a : Int32} : (False) ↔ bt 4 (((a &&& (7 : Int32)) ||| (a &&& (288 : Int32))) ||| (64 : Int32)) := by
  simp only [bt_or, bt_and, bt_znt, bt_zit, bt_zbo, is_1, is_2, is_4, is_8, is_16, is_20, is_24, is_32, is_64, is_96, is_128, is_152, is_160, is_256, is_288, is_384, is_512, bl_7_4, bm_7_4, bl_64_4, bm_64_4, bl_288_4, bm_288_4, true_and, and_true, false_and, and_false, or_false, false_or, true_or, or_true, not_true_eq_false, not_false_eq_true, iff_self] <;> grind
theorem jw23_5 {a : Int32} : (bt 5 a) ↔ bt 5 (((a &&& (7 : Int32)) ||| (a &&& (288 : Int32))) ||| (64 : Int32)) := by
  simp only [bt_or, bt_and, bt_znt, bt_zit, bt_zbo, is_1, is_2, is_4, is_8, is_16, is_20, is_24, is_32, is_64, is_96, is_128, is_152, is_160, is_256, is_288, is_384, is_512, bl_7_5, bm_7_5, bl_64_5, bm_64_5, bl_288_5, bm_288_5, true_and, and_true, false_and, and_false, or_false, false_or, true_or, or_true, not_true_eq_false, not_false_eq_true, iff_self] <;> grind
theorem jw23_6 {a : Int32} : (True) ↔ bt 6 (((a &&& (7 : Int32)) ||| (a &&& (288 : Int32))) ||| (64 : Int32)) := by
  simp only [bt_or, bt_and, bt_znt, bt_zit, bt_zbo, is_1, is_2, is_4, is_8, is_16, is_20, is_24, is_32, is_64, is_96, is_128, is_152, is_160, is_256, is_288, is_384, is_512, bl_7_6, bm_7_6, bl_64_6, bm_64_6, bl_288_6, bm_288_6, true_and, and_true, false_and, and_false, or_false, false_or, true_or, or_true, not_true_eq_false, not_false_eq_true, iff_self] <;> grind
theorem jw23_7 {a : Int32} : (False) ↔ bt 7 (((a &&& (7 : Int32)) ||| (a &&& (288 : Int32))) ||| (64 : Int32)) := by
  simp only [bt_or, bt_and, bt_znt, bt_zit, bt_zbo, is_1, is_2, is_4, is_8, is_16, is_20, is_24, is_32, is_64, is_96, is_128, is_152, is_160, is_256, is_288, is_384, is_512, bl_7_7, bm_7_7, bl_64_7, bm_64_7, bl_288_7, bm_288_7, true_and, and_true, false_and, and_false, or_false, false_or, true_or, or_true, not_true_eq_false, not_false_eq_true, iff_self] <;> grind
theorem jw23_8 {a : Int32} : (bt 8 a) ↔ bt 8 (((a &&& (7 : Int32)) ||| (a &&& (288 : Int32))) ||| (64 : Int32)) := by
  simp only [bt_or, bt_and, bt_znt, bt_zit, bt_zbo, is_1, is_2, is_4, is_8, is_16, is_20, is_24, is_32, is_64, is_96, is_128, is_152, is_160, is_256, is_288, is_384, is_512, bl_7_8, bm_7_8, bl_64_8, bm_64_8, bl_288_8, bm_288_8, true_and, and_true, false_and, and_false, or_false, false_or, true_or, or_true, not_true_eq_false, not_false_eq_true, iff_self] <;> grind
theorem jw23_9 {a : Int32} : ¬ bt 9 (((a &&& (7 : Int32)) ||| (a &&& (288 : Int32))) ||| (64 : Int32)) := by
  simp only [bt_or, bt_and, bt_znt, bt_zit, bt_zbo, is_1, is_2, is_4, is_8, is_16, is_20, is_24, is_32, is_64, is_96, is_128, is_152, is_160, is_256, is_288, is_384, is_512, bl_7_9, bm_7_9, bl_64_9, bm_64_9, bl_288_9, bm_288_9, true_and, and_true, false_and, and_false, or_false, false_or, true_or, or_true, not_true_eq_false, not_false_eq_true, iff_self] <;> grind
theorem jw23_c {p a : Int32} (hp : tB4 p) : (((p + 1) = 1)) ↔ ((p = 0)) := by
  rcases hp with rfl | rfl | rfl | rfl <;> simp [is_1, is_2, is_4]
theorem jw23_m {p a tx : Int32} : (bt 9 a) ↔ tyMx 23 0 [(p, a, tx)] := by
  rw [tyMx_1]
  simp only [nz_1, nz_2, nz_4, nz_8, bt_or, bl_0_0, bl_0_1, bl_0_2, bl_0_3, false_or, Classical.not_not]
  simp only [tog, mxb]
  grind
theorem jw23_l {p a tx : Int32} : (0 : Int32) ||| tx = lkL 23 0 ||| lkAll [(p, a, tx)] := by
  show _ = (0 : Int32) ||| ((0 : Int32) ||| tx)
  rw [Int32.zero_or]

theorem xj_W23 {d : Nat} {S : zS} (hF : zFin true S) (hd : 2 ≤ d) {n pl x : Nat} {p : Int32} {a : Int32} {tx : Int32} (hn0 : 1639 ≤ n) (hn : n < gN S) (hx : x < gN S) (hxn : x ≠ n) (hcx : zNc (ztyp S x) = true) (hN2 : gN S < 1900000) (htn : ztyp S n = 11) (how : gI S 160 n = Int32.ofNat 118) (hpx : gP S 161 n = some x) (hpl : gI S 144 n = Int32.ofNat pl) (hXx : xTy S x (p, a, tx)) (hm0 : gI S 156 n = 0) (ht0 : gI S 146 n = 0) (h4x : tB4 p) {post : Outcome × zS → Prop}
    (h1 : ∀ t S', zFin true S' → tyN 23 0 [(p, a, tx)] = some t → xJd S n S' → xTy S' n t → post (.returned none, S'))
    (h2 : tyN 23 0 [(p, a, tx)] = none → ∀ S' q, zFin true S' → xFn S n S' → xFl S' q 3 pl → gN S + 1 = gN S' ∧ gZ S' ≤ gZ S + 3 → post (.threw q, S')) : zCall d 293 [.ref n] S post := by
  have hm0' : gI S 156 n = zbo False := hm0.trans (zbo_neg id).symm
  refine wj_23 hF (by omega) n x p a tx hn0 hn hx hxn hcx hN2 htn how hpx hXx.1 hXx.2.1.1 hXx.2.1.2.1 hXx.2.1.2.2.1 hXx.2.1.2.2.2.1 hXx.2.1.2.2.2.2.1 hXx.2.1.2.2.2.2.2.1 hXx.2.1.2.2.2.2.2.2.1 hXx.2.1.2.2.2.2.2.2.2.1 hXx.2.1.2.2.2.2.2.2.2.2.1 hXx.2.1.2.2.2.2.2.2.2.2.2 hXx.2.2 hm0' ht0 (fun c0 => ?_) (fun c => ?_)
  · have hq : tyB 23 0 [(p, a, tx)] = some (1, ((a &&& (7 : Int32)) ||| (a &&& (288 : Int32))) ||| (64 : Int32)) := (tyB_W (by omega) _).trans (zop_pos ((jw23_c h4x).mp c0))
    refine h1 _ _ (by first | exact hF | exact hF) (tyN_some hq) (xJd_s (xJd_s (xJd_s (xJd_s (xJd_s (xJd_s (xJd_s (xJd_s (xJd_s (xJd_s (xJd_s (xJd_s xJd.rf (by decide)) (by decide)) (by decide)) (by decide)) (by decide)) (by decide)) (by decide)) (by decide)) (by decide)) (by decide)) (by decide)) (by decide)) (xTy_mk (b := 1) (f := ((a &&& (7 : Int32)) ||| (a &&& (288 : Int32))) ||| (64 : Int32)) (MX := tyMx 23 0 [(p, a, tx)]) (((gI_sI_nf (by decide)).trans ((gI_sI_nf (by decide)).trans ((gI_sI_nf (by decide)).trans ((gI_sI_nf (by decide)).trans ((gI_sI_nf (by decide)).trans ((gI_sI_nf (by decide)).trans ((gI_sI_nf (by decide)).trans ((gI_sI_nf (by decide)).trans ((gI_sI_nf (by decide)).trans ((gI_sI_nf (by decide)).trans ((gI_sI_nf (by decide)).trans (gI_sI_at)))))))))))).trans (show (2 : Int32) = 1 + 1 from by decide))
        ((gI_sI_nf (by decide)).trans ((gI_sI_nf (by decide)).trans ((gI_sI_nf (by decide)).trans ((gI_sI_nf (by decide)).trans ((gI_sI_nf (by decide)).trans ((gI_sI_nf (by decide)).trans ((gI_sI_nf (by decide)).trans ((gI_sI_nf (by decide)).trans ((gI_sI_nf (by decide)).trans ((gI_sI_nf (by decide)).trans (gI_sI_at)))))))))))
        ((gI_sI_nf (by decide)).trans ((gI_sI_nf (by decide)).trans ((gI_sI_nf (by decide)).trans ((gI_sI_nf (by decide)).trans ((gI_sI_nf (by decide)).trans ((gI_sI_nf (by decide)).trans ((gI_sI_nf (by decide)).trans ((gI_sI_nf (by decide)).trans ((gI_sI_nf (by decide)).trans (gI_sI_at))))))))))
        ((gI_sI_nf (by decide)).trans ((gI_sI_nf (by decide)).trans ((gI_sI_nf (by decide)).trans ((gI_sI_nf (by decide)).trans ((gI_sI_nf (by decide)).trans ((gI_sI_nf (by decide)).trans ((gI_sI_nf (by decide)).trans ((gI_sI_nf (by decide)).trans (gI_sI_at)))))))))
        (((gI_sI_nf (by decide)).trans ((gI_sI_nf (by decide)).trans ((gI_sI_nf (by decide)).trans ((gI_sI_nf (by decide)).trans ((gI_sI_nf (by decide)).trans ((gI_sI_nf (by decide)).trans ((gI_sI_nf (by decide)).trans (gI_sI_at)))))))).trans (zbo_neg id).symm)
        (((gI_sI_nf (by decide)).trans ((gI_sI_nf (by decide)).trans ((gI_sI_nf (by decide)).trans ((gI_sI_nf (by decide)).trans ((gI_sI_nf (by decide)).trans ((gI_sI_nf (by decide)).trans (gI_sI_at))))))).trans (zbo_neg id).symm)
        ((gI_sI_nf (by decide)).trans ((gI_sI_nf (by decide)).trans ((gI_sI_nf (by decide)).trans ((gI_sI_nf (by decide)).trans ((gI_sI_nf (by decide)).trans (gI_sI_at))))))
        (((gI_sI_nf (by decide)).trans ((gI_sI_nf (by decide)).trans ((gI_sI_nf (by decide)).trans ((gI_sI_nf (by decide)).trans (gI_sI_at))))).trans (zbo_pos trivial).symm)
        (((gI_sI_nf (by decide)).trans ((gI_sI_nf (by decide)).trans ((gI_sI_nf (by decide)).trans (gI_sI_at)))).trans (zbo_neg id).symm)
        ((gI_sI_nf (by decide)).trans ((gI_sI_nf (by decide)).trans (gI_sI_at)))
        ((gI_sI_nf (by decide)).trans (gI_sI_at))
        (gI_sI_at) jw23_0 jw23_1 jw23_2 jw23_3 jw23_4 jw23_5 jw23_6 jw23_7 jw23_8 jw23_9 jw23_m jw23_l)
  · obtain ⟨g0, g1, g2, g3, g4⟩ := xF_new hF (by omega) hN2 3 3 pl rfl hpl
    exact h2 (tyN_none ((tyB_W (by omega) _).trans (zop_neg (fun x => c ((jw23_c h4x).mpr x))))) _ _ g0 g1.n g2 ⟨g3, g4⟩

theorem jw24_0 {a : Int32} : (False) ↔ bt 0 (((((a &&& (18 : Int32)) ||| (4 : Int32)) ||| (8 : Int32)) ||| (a &&& (288 : Int32))) ||| (Int32.ofNat (znt ((a &&& (64 : Int32)) = 64) 128 0))) := by
  simp only [bt_or, bt_and, bt_znt, bt_zit, bt_zbo, is_1, is_2, is_4, is_8, is_16, is_20, is_24, is_32, is_64, is_96, is_128, is_152, is_160, is_256, is_288, is_384, is_512, bl_0_0, bm_0_0, bl_4_0, bm_4_0, bl_8_0, bm_8_0, bl_18_0, bm_18_0, bl_64_0, bm_64_0, bl_128_0, bm_128_0, bl_288_0, bm_288_0, true_and, and_true, false_and, and_false, or_false, false_or, true_or, or_true, not_true_eq_false, not_false_eq_true, iff_self] <;> grind
theorem jw24_1 {a : Int32} : (bt 1 a) ↔ bt 1 (((((a &&& (18 : Int32)) ||| (4 : Int32)) ||| (8 : Int32)) ||| (a &&& (288 : Int32))) ||| (Int32.ofNat (znt ((a &&& (64 : Int32)) = 64) 128 0))) := by
  simp only [bt_or, bt_and, bt_znt, bt_zit, bt_zbo, is_1, is_2, is_4, is_8, is_16, is_20, is_24, is_32, is_64, is_96, is_128, is_152, is_160, is_256, is_288, is_384, is_512, bl_0_1, bm_0_1, bl_4_1, bm_4_1, bl_8_1, bm_8_1, bl_18_1, bm_18_1, bl_64_1, bm_64_1, bl_128_1, bm_128_1, bl_288_1, bm_288_1, true_and, and_true, false_and, and_false, or_false, false_or, true_or, or_true, not_true_eq_false, not_false_eq_true, iff_self] <;> grind
theorem jw24_2 {a : Int32} : (True) ↔ bt 2 (((((a &&& (18 : Int32)) ||| (4 : Int32)) ||| (8 : Int32)) ||| (a &&& (288 : Int32))) ||| (Int32.ofNat (znt ((a &&& (64 : Int32)) = 64) 128 0))) := by
  simp only [bt_or, bt_and, bt_znt, bt_zit, bt_zbo, is_1, is_2, is_4, is_8, is_16, is_20, is_24, is_32, is_64, is_96, is_128, is_152, is_160, is_256, is_288, is_384, is_512, bl_0_2, bm_0_2, bl_4_2, bm_4_2, bl_8_2, bm_8_2, bl_18_2, bm_18_2, bl_64_2, bm_64_2, bl_128_2, bm_128_2, bl_288_2, bm_288_2, true_and, and_true, false_and, and_false, or_false, false_or, true_or, or_true, not_true_eq_false, not_false_eq_true, iff_self] <;> grind
theorem jw24_3 {a : Int32} : (True) ↔ bt 3 (((((a &&& (18 : Int32)) ||| (4 : Int32)) ||| (8 : Int32)) ||| (a &&& (288 : Int32))) ||| (Int32.ofNat (znt ((a &&& (64 : Int32)) = 64) 128 0))) := by
  simp only [bt_or, bt_and, bt_znt, bt_zit, bt_zbo, is_1, is_2, is_4, is_8, is_16, is_20, is_24, is_32, is_64, is_96, is_128, is_152, is_160, is_256, is_288, is_384, is_512, bl_0_3, bm_0_3, bl_4_3, bm_4_3, bl_8_3, bm_8_3, bl_18_3, bm_18_3, bl_64_3, bm_64_3, bl_128_3, bm_128_3, bl_288_3, bm_288_3, true_and, and_true, false_and, and_false, or_false, false_or, true_or, or_true, not_true_eq_false, not_false_eq_true, iff_self] <;> grind
theorem jw24_4 {a : Int32} : (bt 4 a) ↔ bt 4 (((((a &&& (18 : Int32)) ||| (4 : Int32)) ||| (8 : Int32)) ||| (a &&& (288 : Int32))) ||| (Int32.ofNat (znt ((a &&& (64 : Int32)) = 64) 128 0))) := by
  simp only [bt_or, bt_and, bt_znt, bt_zit, bt_zbo, is_1, is_2, is_4, is_8, is_16, is_20, is_24, is_32, is_64, is_96, is_128, is_152, is_160, is_256, is_288, is_384, is_512, bl_0_4, bm_0_4, bl_4_4, bm_4_4, bl_8_4, bm_8_4, bl_18_4, bm_18_4, bl_64_4, bm_64_4, bl_128_4, bm_128_4, bl_288_4, bm_288_4, true_and, and_true, false_and, and_false, or_false, false_or, true_or, or_true, not_true_eq_false, not_false_eq_true, iff_self] <;> grind
theorem jw24_5 {a : Int32} : (bt 5 a) ↔ bt 5 (((((a &&& (18 : Int32)) ||| (4 : Int32)) ||| (8 : Int32)) ||| (a &&& (288 : Int32))) ||| (Int32.ofNat (znt ((a &&& (64 : Int32)) = 64) 128 0))) := by
  simp only [bt_or, bt_and, bt_znt, bt_zit, bt_zbo, is_1, is_2, is_4, is_8, is_16, is_20, is_24, is_32, is_64, is_96, is_128, is_152, is_160, is_256, is_288, is_384, is_512, bl_0_5, bm_0_5, bl_4_5, bm_4_5, bl_8_5, bm_8_5, bl_18_5, bm_18_5, bl_64_5, bm_64_5, bl_128_5, bm_128_5, bl_288_5, bm_288_5, true_and, and_true, false_and, and_false, or_false, false_or, true_or, or_true, not_true_eq_false, not_false_eq_true, iff_self] <;> grind
theorem jw24_6 {a : Int32} : (False) ↔ bt 6 (((((a &&& (18 : Int32)) ||| (4 : Int32)) ||| (8 : Int32)) ||| (a &&& (288 : Int32))) ||| (Int32.ofNat (znt ((a &&& (64 : Int32)) = 64) 128 0))) := by
  simp only [bt_or, bt_and, bt_znt, bt_zit, bt_zbo, is_1, is_2, is_4, is_8, is_16, is_20, is_24, is_32, is_64, is_96, is_128, is_152, is_160, is_256, is_288, is_384, is_512, bl_0_6, bm_0_6, bl_4_6, bm_4_6, bl_8_6, bm_8_6, bl_18_6, bm_18_6, bl_64_6, bm_64_6, bl_128_6, bm_128_6, bl_288_6, bm_288_6, true_and, and_true, false_and, and_false, or_false, false_or, true_or, or_true, not_true_eq_false, not_false_eq_true, iff_self] <;> grind
theorem jw24_7 {a : Int32} : (bt 6 a) ↔ bt 7 (((((a &&& (18 : Int32)) ||| (4 : Int32)) ||| (8 : Int32)) ||| (a &&& (288 : Int32))) ||| (Int32.ofNat (znt ((a &&& (64 : Int32)) = 64) 128 0))) := by
  simp only [bt_or, bt_and, bt_znt, bt_zit, bt_zbo, is_1, is_2, is_4, is_8, is_16, is_20, is_24, is_32, is_64, is_96, is_128, is_152, is_160, is_256, is_288, is_384, is_512, bl_0_7, bm_0_7, bl_4_7, bm_4_7, bl_8_7, bm_8_7, bl_18_7, bm_18_7, bl_64_7, bm_64_7, bl_128_7, bm_128_7, bl_288_7, bm_288_7, true_and, and_true, false_and, and_false, or_false, false_or, true_or, or_true, not_true_eq_false, not_false_eq_true, iff_self] <;> grind
theorem jw24_8 {a : Int32} : (bt 8 a) ↔ bt 8 (((((a &&& (18 : Int32)) ||| (4 : Int32)) ||| (8 : Int32)) ||| (a &&& (288 : Int32))) ||| (Int32.ofNat (znt ((a &&& (64 : Int32)) = 64) 128 0))) := by
  simp only [bt_or, bt_and, bt_znt, bt_zit, bt_zbo, is_1, is_2, is_4, is_8, is_16, is_20, is_24, is_32, is_64, is_96, is_128, is_152, is_160, is_256, is_288, is_384, is_512, bl_0_8, bm_0_8, bl_4_8, bm_4_8, bl_8_8, bm_8_8, bl_18_8, bm_18_8, bl_64_8, bm_64_8, bl_128_8, bm_128_8, bl_288_8, bm_288_8, true_and, and_true, false_and, and_false, or_false, false_or, true_or, or_true, not_true_eq_false, not_false_eq_true, iff_self] <;> grind
theorem jw24_9 {a : Int32} : ¬ bt 9 (((((a &&& (18 : Int32)) ||| (4 : Int32)) ||| (8 : Int32)) ||| (a &&& (288 : Int32))) ||| (Int32.ofNat (znt ((a &&& (64 : Int32)) = 64) 128 0))) := by
  simp only [bt_or, bt_and, bt_znt, bt_zit, bt_zbo, is_1, is_2, is_4, is_8, is_16, is_20, is_24, is_32, is_64, is_96, is_128, is_152, is_160, is_256, is_288, is_384, is_512, bl_0_9, bm_0_9, bl_4_9, bm_4_9, bl_8_9, bm_8_9, bl_18_9, bm_18_9, bl_64_9, bm_64_9, bl_128_9, bm_128_9, bl_288_9, bm_288_9, true_and, and_true, false_and, and_false, or_false, false_or, true_or, or_true, not_true_eq_false, not_false_eq_true, iff_self] <;> grind
theorem jw24_c {p a : Int32} (hp : tB4 p) : ((((p + 1) = 1) ∧ (bt 2 a))) ↔ ((p = 0) ∧ ((a &&& (4 : Int32)) = 4)) := by
  rcases hp with rfl | rfl | rfl | rfl <;> simp [is_1, is_2, is_4]
theorem jw24_m {p a tx : Int32} : (bt 9 a) ↔ tyMx 24 0 [(p, a, tx)] := by
  rw [tyMx_1]
  simp only [nz_1, nz_2, nz_4, nz_8, bt_or, bl_0_0, bl_0_1, bl_0_2, bl_0_3, false_or, Classical.not_not]
  simp only [tog, mxb]
  grind
theorem jw24_l {p a tx : Int32} : (0 : Int32) ||| tx = lkL 24 0 ||| lkAll [(p, a, tx)] := by
  show _ = (0 : Int32) ||| ((0 : Int32) ||| tx)
  rw [Int32.zero_or]

theorem xj_W24 {d : Nat} {S : zS} (hF : zFin true S) (hd : 2 ≤ d) {n pl x : Nat} {p : Int32} {a : Int32} {tx : Int32} (hn0 : 1639 ≤ n) (hn : n < gN S) (hx : x < gN S) (hxn : x ≠ n) (hcx : zNc (ztyp S x) = true) (hN2 : gN S < 1900000) (htn : ztyp S n = 11) (how : gI S 160 n = Int32.ofNat 106) (hpx : gP S 161 n = some x) (hpl : gI S 144 n = Int32.ofNat pl) (hXx : xTy S x (p, a, tx)) (hm0 : gI S 156 n = 0) (ht0 : gI S 146 n = 0) (h4x : tB4 p) {post : Outcome × zS → Prop}
    (h1 : ∀ t S', zFin true S' → tyN 24 0 [(p, a, tx)] = some t → xJd S n S' → xTy S' n t → post (.returned none, S'))
    (h2 : tyN 24 0 [(p, a, tx)] = none → ∀ S' q, zFin true S' → xFn S n S' → xFl S' q 3 pl → gN S + 1 = gN S' ∧ gZ S' ≤ gZ S + 3 → post (.threw q, S')) : zCall d 293 [.ref n] S post := by
  have hm0' : gI S 156 n = zbo False := hm0.trans (zbo_neg id).symm
  refine wj_24 hF (by omega) n x p a tx hn0 hn hx hxn hcx hN2 htn how hpx hXx.1 hXx.2.1.1 hXx.2.1.2.1 hXx.2.1.2.2.1 hXx.2.1.2.2.2.1 hXx.2.1.2.2.2.2.1 hXx.2.1.2.2.2.2.2.1 hXx.2.1.2.2.2.2.2.2.1 hXx.2.1.2.2.2.2.2.2.2.1 hXx.2.1.2.2.2.2.2.2.2.2.1 hXx.2.1.2.2.2.2.2.2.2.2.2 hXx.2.2 hm0' ht0 (fun c0 => ?_) (fun c => ?_)
  · have hq : tyB 24 0 [(p, a, tx)] = some (0, ((((a &&& (18 : Int32)) ||| (4 : Int32)) ||| (8 : Int32)) ||| (a &&& (288 : Int32))) ||| (Int32.ofNat (znt ((a &&& (64 : Int32)) = 64) 128 0))) := (tyB_W (by omega) _).trans (zop_pos ((jw24_c h4x).mp c0))
    refine h1 _ _ (by first | exact hF | exact hF) (tyN_some hq) (xJd_s (xJd_s (xJd_s (xJd_s (xJd_s (xJd_s (xJd_s (xJd_s (xJd_s (xJd_s (xJd_s (xJd_s xJd.rf (by decide)) (by decide)) (by decide)) (by decide)) (by decide)) (by decide)) (by decide)) (by decide)) (by decide)) (by decide)) (by decide)) (by decide)) (xTy_mk (b := 0) (f := ((((a &&& (18 : Int32)) ||| (4 : Int32)) ||| (8 : Int32)) ||| (a &&& (288 : Int32))) ||| (Int32.ofNat (znt ((a &&& (64 : Int32)) = 64) 128 0))) (MX := tyMx 24 0 [(p, a, tx)]) (((gI_sI_nf (by decide)).trans ((gI_sI_nf (by decide)).trans ((gI_sI_nf (by decide)).trans ((gI_sI_nf (by decide)).trans ((gI_sI_nf (by decide)).trans ((gI_sI_nf (by decide)).trans ((gI_sI_nf (by decide)).trans ((gI_sI_nf (by decide)).trans ((gI_sI_nf (by decide)).trans ((gI_sI_nf (by decide)).trans ((gI_sI_nf (by decide)).trans (gI_sI_at)))))))))))).trans (show (1 : Int32) = 0 + 1 from by decide))
        (((gI_sI_nf (by decide)).trans ((gI_sI_nf (by decide)).trans ((gI_sI_nf (by decide)).trans ((gI_sI_nf (by decide)).trans ((gI_sI_nf (by decide)).trans ((gI_sI_nf (by decide)).trans ((gI_sI_nf (by decide)).trans ((gI_sI_nf (by decide)).trans ((gI_sI_nf (by decide)).trans ((gI_sI_nf (by decide)).trans (gI_sI_at))))))))))).trans (zbo_neg id).symm)
        ((gI_sI_nf (by decide)).trans ((gI_sI_nf (by decide)).trans ((gI_sI_nf (by decide)).trans ((gI_sI_nf (by decide)).trans ((gI_sI_nf (by decide)).trans ((gI_sI_nf (by decide)).trans ((gI_sI_nf (by decide)).trans ((gI_sI_nf (by decide)).trans ((gI_sI_nf (by decide)).trans (gI_sI_at))))))))))
        (((gI_sI_nf (by decide)).trans ((gI_sI_nf (by decide)).trans ((gI_sI_nf (by decide)).trans ((gI_sI_nf (by decide)).trans ((gI_sI_nf (by decide)).trans ((gI_sI_nf (by decide)).trans ((gI_sI_nf (by decide)).trans ((gI_sI_nf (by decide)).trans (gI_sI_at))))))))).trans (zbo_pos trivial).symm)
        (((gI_sI_nf (by decide)).trans ((gI_sI_nf (by decide)).trans ((gI_sI_nf (by decide)).trans ((gI_sI_nf (by decide)).trans ((gI_sI_nf (by decide)).trans ((gI_sI_nf (by decide)).trans ((gI_sI_nf (by decide)).trans (gI_sI_at)))))))).trans (zbo_pos trivial).symm)
        ((gI_sI_nf (by decide)).trans ((gI_sI_nf (by decide)).trans ((gI_sI_nf (by decide)).trans ((gI_sI_nf (by decide)).trans ((gI_sI_nf (by decide)).trans ((gI_sI_nf (by decide)).trans (gI_sI_at)))))))
        ((gI_sI_nf (by decide)).trans ((gI_sI_nf (by decide)).trans ((gI_sI_nf (by decide)).trans ((gI_sI_nf (by decide)).trans ((gI_sI_nf (by decide)).trans (gI_sI_at))))))
        (((gI_sI_nf (by decide)).trans ((gI_sI_nf (by decide)).trans ((gI_sI_nf (by decide)).trans ((gI_sI_nf (by decide)).trans (gI_sI_at))))).trans (zbo_neg id).symm)
        ((gI_sI_nf (by decide)).trans ((gI_sI_nf (by decide)).trans ((gI_sI_nf (by decide)).trans (gI_sI_at))))
        ((gI_sI_nf (by decide)).trans ((gI_sI_nf (by decide)).trans (gI_sI_at)))
        ((gI_sI_nf (by decide)).trans (gI_sI_at))
        (gI_sI_at) jw24_0 jw24_1 jw24_2 jw24_3 jw24_4 jw24_5 jw24_6 jw24_7 jw24_8 jw24_9 jw24_m jw24_l)
  · obtain ⟨g0, g1, g2, g3, g4⟩ := xF_new hF (by omega) hN2 3 3 pl rfl hpl
    exact h2 (tyN_none ((tyB_W (by omega) _).trans (zop_neg (fun x => c ((jw24_c h4x).mpr x))))) _ _ g0 g1.n g2 ⟨g3, g4⟩

theorem jw25_0 {a : Int32} : (bt 0 a) ↔ bt 0 (((a &&& (15 : Int32)) ||| (16 : Int32)) ||| (a &&& (480 : Int32))) := by
  simp only [bt_or, bt_and, bt_znt, bt_zit, bt_zbo, is_1, is_2, is_4, is_8, is_16, is_20, is_24, is_32, is_64, is_96, is_128, is_152, is_160, is_256, is_288, is_384, is_512, bl_15_0, bm_15_0, bl_16_0, bm_16_0, bl_480_0, bm_480_0, true_and, and_true, false_and, and_false, or_false, false_or, true_or, or_true, not_true_eq_false, not_false_eq_true, iff_self] <;> grind
theorem jw25_1 {a : Int32} : (bt 1 a) ↔ bt 1 (((a &&& (15 : Int32)) ||| (16 : Int32)) ||| (a &&& (480 : Int32))) := by
  simp only [bt_or, bt_and, bt_znt, bt_zit, bt_zbo, is_1, is_2, is_4, is_8, is_16, is_20, is_24, is_32, is_64, is_96, is_128, is_152, is_160, is_256, is_288, is_384, is_512, bl_15_1, bm_15_1, bl_16_1, bm_16_1, bl_480_1, bm_480_1, true_and, and_true, false_and, and_false, or_false, false_or, true_or, or_true, not_true_eq_false, not_false_eq_true, iff_self] <;> grind
theorem jw25_2 {a : Int32} : (bt 2 a) ↔ bt 2 (((a &&& (15 : Int32)) ||| (16 : Int32)) ||| (a &&& (480 : Int32))) := by
  simp only [bt_or, bt_and, bt_znt, bt_zit, bt_zbo, is_1, is_2, is_4, is_8, is_16, is_20, is_24, is_32, is_64, is_96, is_128, is_152, is_160, is_256, is_288, is_384, is_512, bl_15_2, bm_15_2, bl_16_2, bm_16_2, bl_480_2, bm_480_2, true_and, and_true, false_and, and_false, or_false, false_or, true_or, or_true, not_true_eq_false, not_false_eq_true, iff_self] <;> grind
theorem jw25_3 {a : Int32} : (bt 3 a) ↔ bt 3 (((a &&& (15 : Int32)) ||| (16 : Int32)) ||| (a &&& (480 : Int32))) := by
  simp only [bt_or, bt_and, bt_znt, bt_zit, bt_zbo, is_1, is_2, is_4, is_8, is_16, is_20, is_24, is_32, is_64, is_96, is_128, is_152, is_160, is_256, is_288, is_384, is_512, bl_15_3, bm_15_3, bl_16_3, bm_16_3, bl_480_3, bm_480_3, true_and, and_true, false_and, and_false, or_false, false_or, true_or, or_true, not_true_eq_false, not_false_eq_true, iff_self] <;> grind
theorem jw25_4 {a : Int32} : (True) ↔ bt 4 (((a &&& (15 : Int32)) ||| (16 : Int32)) ||| (a &&& (480 : Int32))) := by
  simp only [bt_or, bt_and, bt_znt, bt_zit, bt_zbo, is_1, is_2, is_4, is_8, is_16, is_20, is_24, is_32, is_64, is_96, is_128, is_152, is_160, is_256, is_288, is_384, is_512, bl_15_4, bm_15_4, bl_16_4, bm_16_4, bl_480_4, bm_480_4, true_and, and_true, false_and, and_false, or_false, false_or, true_or, or_true, not_true_eq_false, not_false_eq_true, iff_self] <;> grind
theorem jw25_5 {a : Int32} : (bt 5 a) ↔ bt 5 (((a &&& (15 : Int32)) ||| (16 : Int32)) ||| (a &&& (480 : Int32))) := by
  simp only [bt_or, bt_and, bt_znt, bt_zit, bt_zbo, is_1, is_2, is_4, is_8, is_16, is_20, is_24, is_32, is_64, is_96, is_128, is_152, is_160, is_256, is_288, is_384, is_512, bl_15_5, bm_15_5, bl_16_5, bm_16_5, bl_480_5, bm_480_5, true_and, and_true, false_and, and_false, or_false, false_or, true_or, or_true, not_true_eq_false, not_false_eq_true, iff_self] <;> grind
theorem jw25_6 {a : Int32} : (bt 6 a) ↔ bt 6 (((a &&& (15 : Int32)) ||| (16 : Int32)) ||| (a &&& (480 : Int32))) := by
  simp only [bt_or, bt_and, bt_znt, bt_zit, bt_zbo, is_1, is_2, is_4, is_8, is_16, is_20, is_24, is_32, is_64, is_96, is_128, is_152, is_160, is_256, is_288, is_384, is_512, bl_15_6, bm_15_6, bl_16_6, bm_16_6, bl_480_6, bm_480_6, true_and, and_true, false_and, and_false, or_false, false_or, true_or, or_true, not_true_eq_false, not_false_eq_true, iff_self] <;> grind
theorem jw25_7 {a : Int32} : (bt 7 a) ↔ bt 7 (((a &&& (15 : Int32)) ||| (16 : Int32)) ||| (a &&& (480 : Int32))) := by
  simp only [bt_or, bt_and, bt_znt, bt_zit, bt_zbo, is_1, is_2, is_4, is_8, is_16, is_20, is_24, is_32, is_64, is_96, is_128, is_152, is_160, is_256, is_288, is_384, is_512, bl_15_7, bm_15_7, bl_16_7, bm_16_7, bl_480_7, bm_480_7, true_and, and_true, false_and, and_false, or_false, false_or, true_or, or_true, not_true_eq_false, not_false_eq_true, iff_self] <;> grind
theorem jw25_8 {a : Int32} : (bt 8 a) ↔ bt 8 (((a &&& (15 : Int32)) ||| (16 : Int32)) ||| (a &&& (480 : Int32))) := by
  simp only [bt_or, bt_and, bt_znt, bt_zit, bt_zbo, is_1, is_2, is_4, is_8, is_16, is_20, is_24, is_32, is_64, is_96, is_128, is_152, is_160, is_256, is_288, is_384, is_512, bl_15_8, bm_15_8, bl_16_8, bm_16_8, bl_480_8, bm_480_8, true_and, and_true, false_and, and_false, or_false, false_or, true_or, or_true, not_true_eq_false, not_false_eq_true, iff_self] <;> grind
theorem jw25_9 {a : Int32} : ¬ bt 9 (((a &&& (15 : Int32)) ||| (16 : Int32)) ||| (a &&& (480 : Int32))) := by
  simp only [bt_or, bt_and, bt_znt, bt_zit, bt_zbo, is_1, is_2, is_4, is_8, is_16, is_20, is_24, is_32, is_64, is_96, is_128, is_152, is_160, is_256, is_288, is_384, is_512, bl_15_9, bm_15_9, bl_16_9, bm_16_9, bl_480_9, bm_480_9, true_and, and_true, false_and, and_false, or_false, false_or, true_or, or_true, not_true_eq_false, not_false_eq_true, iff_self] <;> grind
theorem jw25_c {p a : Int32} (hp : tB4 p) : (((p + 1) = 1)) ↔ ((p = 0)) := by
  rcases hp with rfl | rfl | rfl | rfl <;> simp [is_1, is_2, is_4]
theorem jw25_m {p a tx : Int32} : (bt 9 a) ↔ tyMx 25 0 [(p, a, tx)] := by
  rw [tyMx_1]
  simp only [nz_1, nz_2, nz_4, nz_8, bt_or, bl_0_0, bl_0_1, bl_0_2, bl_0_3, false_or, Classical.not_not]
  simp only [tog, mxb]
  grind
theorem jw25_l {p a tx : Int32} : (0 : Int32) ||| tx = lkL 25 0 ||| lkAll [(p, a, tx)] := by
  show _ = (0 : Int32) ||| ((0 : Int32) ||| tx)
  rw [Int32.zero_or]

theorem xj_W25 {d : Nat} {S : zS} (hF : zFin true S) (hd : 2 ≤ d) {n pl x : Nat} {p : Int32} {a : Int32} {tx : Int32} (hn0 : 1639 ≤ n) (hn : n < gN S) (hx : x < gN S) (hxn : x ≠ n) (hcx : zNc (ztyp S x) = true) (hN2 : gN S < 1900000) (htn : ztyp S n = 11) (how : gI S 160 n = Int32.ofNat 110) (hpx : gP S 161 n = some x) (hpl : gI S 144 n = Int32.ofNat pl) (hXx : xTy S x (p, a, tx)) (hm0 : gI S 156 n = 0) (ht0 : gI S 146 n = 0) (h4x : tB4 p) {post : Outcome × zS → Prop}
    (h1 : ∀ t S', zFin true S' → tyN 25 0 [(p, a, tx)] = some t → xJd S n S' → xTy S' n t → post (.returned none, S'))
    (h2 : tyN 25 0 [(p, a, tx)] = none → ∀ S' q, zFin true S' → xFn S n S' → xFl S' q 3 pl → gN S + 1 = gN S' ∧ gZ S' ≤ gZ S + 3 → post (.threw q, S')) : zCall d 293 [.ref n] S post := by
  have hm0' : gI S 156 n = zbo False := hm0.trans (zbo_neg id).symm
  refine wj_25 hF (by omega) n x p a tx hn0 hn hx hxn hcx hN2 htn how hpx hXx.1 hXx.2.1.1 hXx.2.1.2.1 hXx.2.1.2.2.1 hXx.2.1.2.2.2.1 hXx.2.1.2.2.2.2.1 hXx.2.1.2.2.2.2.2.1 hXx.2.1.2.2.2.2.2.2.1 hXx.2.1.2.2.2.2.2.2.2.1 hXx.2.1.2.2.2.2.2.2.2.2.1 hXx.2.1.2.2.2.2.2.2.2.2.2 hXx.2.2 hm0' ht0 (fun c0 => ?_) (fun c => ?_)
  · have hq : tyB 25 0 [(p, a, tx)] = some (0, ((a &&& (15 : Int32)) ||| (16 : Int32)) ||| (a &&& (480 : Int32))) := (tyB_W (by omega) _).trans (zop_pos ((jw25_c h4x).mp c0))
    refine h1 _ _ (by first | exact hF | exact hF) (tyN_some hq) (xJd_s (xJd_s (xJd_s (xJd_s (xJd_s (xJd_s (xJd_s (xJd_s (xJd_s (xJd_s (xJd_s (xJd_s xJd.rf (by decide)) (by decide)) (by decide)) (by decide)) (by decide)) (by decide)) (by decide)) (by decide)) (by decide)) (by decide)) (by decide)) (by decide)) (xTy_mk (b := 0) (f := ((a &&& (15 : Int32)) ||| (16 : Int32)) ||| (a &&& (480 : Int32))) (MX := tyMx 25 0 [(p, a, tx)]) (((gI_sI_nf (by decide)).trans ((gI_sI_nf (by decide)).trans ((gI_sI_nf (by decide)).trans ((gI_sI_nf (by decide)).trans ((gI_sI_nf (by decide)).trans ((gI_sI_nf (by decide)).trans ((gI_sI_nf (by decide)).trans ((gI_sI_nf (by decide)).trans ((gI_sI_nf (by decide)).trans ((gI_sI_nf (by decide)).trans ((gI_sI_nf (by decide)).trans (gI_sI_at)))))))))))).trans (show (1 : Int32) = 0 + 1 from by decide))
        ((gI_sI_nf (by decide)).trans ((gI_sI_nf (by decide)).trans ((gI_sI_nf (by decide)).trans ((gI_sI_nf (by decide)).trans ((gI_sI_nf (by decide)).trans ((gI_sI_nf (by decide)).trans ((gI_sI_nf (by decide)).trans ((gI_sI_nf (by decide)).trans ((gI_sI_nf (by decide)).trans ((gI_sI_nf (by decide)).trans (gI_sI_at)))))))))))
        ((gI_sI_nf (by decide)).trans ((gI_sI_nf (by decide)).trans ((gI_sI_nf (by decide)).trans ((gI_sI_nf (by decide)).trans ((gI_sI_nf (by decide)).trans ((gI_sI_nf (by decide)).trans ((gI_sI_nf (by decide)).trans ((gI_sI_nf (by decide)).trans ((gI_sI_nf (by decide)).trans (gI_sI_at))))))))))
        ((gI_sI_nf (by decide)).trans ((gI_sI_nf (by decide)).trans ((gI_sI_nf (by decide)).trans ((gI_sI_nf (by decide)).trans ((gI_sI_nf (by decide)).trans ((gI_sI_nf (by decide)).trans ((gI_sI_nf (by decide)).trans ((gI_sI_nf (by decide)).trans (gI_sI_at)))))))))
        ((gI_sI_nf (by decide)).trans ((gI_sI_nf (by decide)).trans ((gI_sI_nf (by decide)).trans ((gI_sI_nf (by decide)).trans ((gI_sI_nf (by decide)).trans ((gI_sI_nf (by decide)).trans ((gI_sI_nf (by decide)).trans (gI_sI_at))))))))
        (((gI_sI_nf (by decide)).trans ((gI_sI_nf (by decide)).trans ((gI_sI_nf (by decide)).trans ((gI_sI_nf (by decide)).trans ((gI_sI_nf (by decide)).trans ((gI_sI_nf (by decide)).trans (gI_sI_at))))))).trans (zbo_pos trivial).symm)
        ((gI_sI_nf (by decide)).trans ((gI_sI_nf (by decide)).trans ((gI_sI_nf (by decide)).trans ((gI_sI_nf (by decide)).trans ((gI_sI_nf (by decide)).trans (gI_sI_at))))))
        ((gI_sI_nf (by decide)).trans ((gI_sI_nf (by decide)).trans ((gI_sI_nf (by decide)).trans ((gI_sI_nf (by decide)).trans (gI_sI_at)))))
        ((gI_sI_nf (by decide)).trans ((gI_sI_nf (by decide)).trans ((gI_sI_nf (by decide)).trans (gI_sI_at))))
        ((gI_sI_nf (by decide)).trans ((gI_sI_nf (by decide)).trans (gI_sI_at)))
        ((gI_sI_nf (by decide)).trans (gI_sI_at))
        (gI_sI_at) jw25_0 jw25_1 jw25_2 jw25_3 jw25_4 jw25_5 jw25_6 jw25_7 jw25_8 jw25_9 jw25_m jw25_l)
  · obtain ⟨g0, g1, g2, g3, g4⟩ := xF_new hF (by omega) hN2 3 3 pl rfl hpl
    exact h2 (tyN_none ((tyB_W (by omega) _).trans (zop_neg (fun x => c ((jw25_c h4x).mpr x))))) _ _ g0 g1.n g2 ⟨g3, g4⟩

theorem ja_0 {a b c : Int32} : ((bt 0 a) ∧ (bt 0 b) ∧ (bt 0 c)) ↔ bt 0 ((ao10_e1 a b c) ||| (Int32.ofNat (znt (((((a &&& b) &&& c) &&& (256 : Int32)) = 256) ∧ ((a &&& (128 : Int32)) = 128) ∧ ((((a ||| b) ||| c) &&& (32 : Int32)) = 32)) 256 0))) := by
  simp only [ao10_e1, bt_or, bt_and, bt_znt, bt_zit, bt_zbo, is_1, is_2, is_4, is_8, is_16, is_20, is_24, is_32, is_64, is_96, is_128, is_152, is_160, is_256, is_288, is_384, is_512, bl_0_0, bm_0_0, bl_1_0, bm_1_0, bl_2_0, bm_2_0, bl_8_0, bm_8_0, bl_16_0, bm_16_0, bl_32_0, bm_32_0, bl_64_0, bm_64_0, bl_128_0, bm_128_0, bl_256_0, bm_256_0, true_and, and_true, false_and, and_false, or_false, false_or, true_or, or_true, not_true_eq_false, not_false_eq_true, iff_self] <;> grind
theorem ja_1 {a b c : Int32} : (((bt 0 a) ∧ (bt 1 b) ∧ (bt 1 c)) ∨ ((bt 1 a) ∧ (bt 0 b) ∧ (bt 0 c))) ↔ bt 1 ((ao10_e1 a b c) ||| (Int32.ofNat (znt (((((a &&& b) &&& c) &&& (256 : Int32)) = 256) ∧ ((a &&& (128 : Int32)) = 128) ∧ ((((a ||| b) ||| c) &&& (32 : Int32)) = 32)) 256 0))) := by
  simp only [ao10_e1, bt_or, bt_and, bt_znt, bt_zit, bt_zbo, is_1, is_2, is_4, is_8, is_16, is_20, is_24, is_32, is_64, is_96, is_128, is_152, is_160, is_256, is_288, is_384, is_512, bl_0_1, bm_0_1, bl_1_1, bm_1_1, bl_2_1, bm_2_1, bl_8_1, bm_8_1, bl_16_1, bm_16_1, bl_32_1, bm_32_1, bl_64_1, bm_64_1, bl_128_1, bm_128_1, bl_256_1, bm_256_1, true_and, and_true, false_and, and_false, or_false, false_or, true_or, or_true, not_true_eq_false, not_false_eq_true, iff_self] <;> grind
theorem ja_2 {a b c : Int32} : (False) ↔ bt 2 ((ao10_e1 a b c) ||| (Int32.ofNat (znt (((((a &&& b) &&& c) &&& (256 : Int32)) = 256) ∧ ((a &&& (128 : Int32)) = 128) ∧ ((((a ||| b) ||| c) &&& (32 : Int32)) = 32)) 256 0))) := by
  simp only [ao10_e1, bt_or, bt_and, bt_znt, bt_zit, bt_zbo, is_1, is_2, is_4, is_8, is_16, is_20, is_24, is_32, is_64, is_96, is_128, is_152, is_160, is_256, is_288, is_384, is_512, bl_0_2, bm_0_2, bl_1_2, bm_1_2, bl_2_2, bm_2_2, bl_8_2, bm_8_2, bl_16_2, bm_16_2, bl_32_2, bm_32_2, bl_64_2, bm_64_2, bl_128_2, bm_128_2, bl_256_2, bm_256_2, true_and, and_true, false_and, and_false, or_false, false_or, true_or, or_true, not_true_eq_false, not_false_eq_true, iff_self] <;> grind
theorem ja_3 {a b c : Int32} : (bt 3 c) ↔ bt 3 ((ao10_e1 a b c) ||| (Int32.ofNat (znt (((((a &&& b) &&& c) &&& (256 : Int32)) = 256) ∧ ((a &&& (128 : Int32)) = 128) ∧ ((((a ||| b) ||| c) &&& (32 : Int32)) = 32)) 256 0))) := by
  simp only [ao10_e1, bt_or, bt_and, bt_znt, bt_zit, bt_zbo, is_1, is_2, is_4, is_8, is_16, is_20, is_24, is_32, is_64, is_96, is_128, is_152, is_160, is_256, is_288, is_384, is_512, bl_0_3, bm_0_3, bl_1_3, bm_1_3, bl_2_3, bm_2_3, bl_8_3, bm_8_3, bl_16_3, bm_16_3, bl_32_3, bm_32_3, bl_64_3, bm_64_3, bl_128_3, bm_128_3, bl_256_3, bm_256_3, true_and, and_true, false_and, and_false, or_false, false_or, true_or, or_true, not_true_eq_false, not_false_eq_true, iff_self] <;> grind
theorem ja_4 {a b c : Int32} : ((bt 4 b) ∧ (bt 4 c)) ↔ bt 4 ((ao10_e1 a b c) ||| (Int32.ofNat (znt (((((a &&& b) &&& c) &&& (256 : Int32)) = 256) ∧ ((a &&& (128 : Int32)) = 128) ∧ ((((a ||| b) ||| c) &&& (32 : Int32)) = 32)) 256 0))) := by
  simp only [ao10_e1, bt_or, bt_and, bt_znt, bt_zit, bt_zbo, is_1, is_2, is_4, is_8, is_16, is_20, is_24, is_32, is_64, is_96, is_128, is_152, is_160, is_256, is_288, is_384, is_512, bl_0_4, bm_0_4, bl_1_4, bm_1_4, bl_2_4, bm_2_4, bl_8_4, bm_8_4, bl_16_4, bm_16_4, bl_32_4, bm_32_4, bl_64_4, bm_64_4, bl_128_4, bm_128_4, bl_256_4, bm_256_4, true_and, and_true, false_and, and_false, or_false, false_or, true_or, or_true, not_true_eq_false, not_false_eq_true, iff_self] <;> grind
theorem ja_5 {a b c : Int32} : ((bt 5 c) ∧ ((bt 5 a) ∨ (bt 5 b))) ↔ bt 5 ((ao10_e1 a b c) ||| (Int32.ofNat (znt (((((a &&& b) &&& c) &&& (256 : Int32)) = 256) ∧ ((a &&& (128 : Int32)) = 128) ∧ ((((a ||| b) ||| c) &&& (32 : Int32)) = 32)) 256 0))) := by
  simp only [ao10_e1, bt_or, bt_and, bt_znt, bt_zit, bt_zbo, is_1, is_2, is_4, is_8, is_16, is_20, is_24, is_32, is_64, is_96, is_128, is_152, is_160, is_256, is_288, is_384, is_512, bl_0_5, bm_0_5, bl_1_5, bm_1_5, bl_2_5, bm_2_5, bl_8_5, bm_8_5, bl_16_5, bm_16_5, bl_32_5, bm_32_5, bl_64_5, bm_64_5, bl_128_5, bm_128_5, bl_256_5, bm_256_5, true_and, and_true, false_and, and_false, or_false, false_or, true_or, or_true, not_true_eq_false, not_false_eq_true, iff_self] <;> grind
theorem ja_6 {a b c : Int32} : ((bt 6 c) ∧ ((bt 5 a) ∨ (bt 6 b))) ↔ bt 6 ((ao10_e1 a b c) ||| (Int32.ofNat (znt (((((a &&& b) &&& c) &&& (256 : Int32)) = 256) ∧ ((a &&& (128 : Int32)) = 128) ∧ ((((a ||| b) ||| c) &&& (32 : Int32)) = 32)) 256 0))) := by
  simp only [ao10_e1, bt_or, bt_and, bt_znt, bt_zit, bt_zbo, is_1, is_2, is_4, is_8, is_16, is_20, is_24, is_32, is_64, is_96, is_128, is_152, is_160, is_256, is_288, is_384, is_512, bl_0_6, bm_0_6, bl_1_6, bm_1_6, bl_2_6, bm_2_6, bl_8_6, bm_8_6, bl_16_6, bm_16_6, bl_32_6, bm_32_6, bl_64_6, bm_64_6, bl_128_6, bm_128_6, bl_256_6, bm_256_6, true_and, and_true, false_and, and_false, or_false, false_or, true_or, or_true, not_true_eq_false, not_false_eq_true, iff_self] <;> grind
theorem ja_7 {a b c : Int32} : ((bt 7 c) ∧ ((bt 5 a) ∨ (bt 6 b))) ↔ bt 7 ((ao10_e1 a b c) ||| (Int32.ofNat (znt (((((a &&& b) &&& c) &&& (256 : Int32)) = 256) ∧ ((a &&& (128 : Int32)) = 128) ∧ ((((a ||| b) ||| c) &&& (32 : Int32)) = 32)) 256 0))) := by
  simp only [ao10_e1, bt_or, bt_and, bt_znt, bt_zit, bt_zbo, is_1, is_2, is_4, is_8, is_16, is_20, is_24, is_32, is_64, is_96, is_128, is_152, is_160, is_256, is_288, is_384, is_512, bl_0_7, bm_0_7, bl_1_7, bm_1_7, bl_2_7, bm_2_7, bl_8_7, bm_8_7, bl_16_7, bm_16_7, bl_32_7, bm_32_7, bl_64_7, bm_64_7, bl_128_7, bm_128_7, bl_256_7, bm_256_7, true_and, and_true, false_and, and_false, or_false, false_or, true_or, or_true, not_true_eq_false, not_false_eq_true, iff_self] <;> grind
theorem ja_8 {a b c : Int32} : ((bt 8 a) ∧ (bt 8 b) ∧ (bt 8 c) ∧ (bt 7 a) ∧ ((bt 5 a) ∨ (bt 5 b) ∨ (bt 5 c))) ↔ bt 8 ((ao10_e1 a b c) ||| (Int32.ofNat (znt (((((a &&& b) &&& c) &&& (256 : Int32)) = 256) ∧ ((a &&& (128 : Int32)) = 128) ∧ ((((a ||| b) ||| c) &&& (32 : Int32)) = 32)) 256 0))) := by
  simp only [ao10_e1, bt_or, bt_and, bt_znt, bt_zit, bt_zbo, is_1, is_2, is_4, is_8, is_16, is_20, is_24, is_32, is_64, is_96, is_128, is_152, is_160, is_256, is_288, is_384, is_512, bl_0_8, bm_0_8, bl_1_8, bm_1_8, bl_2_8, bm_2_8, bl_8_8, bm_8_8, bl_16_8, bm_16_8, bl_32_8, bm_32_8, bl_64_8, bm_64_8, bl_128_8, bm_128_8, bl_256_8, bm_256_8, true_and, and_true, false_and, and_false, or_false, false_or, true_or, or_true, not_true_eq_false, not_false_eq_true, iff_self] <;> grind
theorem ja_9 {a b c : Int32} : ¬ bt 9 ((ao10_e1 a b c) ||| (Int32.ofNat (znt (((((a &&& b) &&& c) &&& (256 : Int32)) = 256) ∧ ((a &&& (128 : Int32)) = 128) ∧ ((((a ||| b) ||| c) &&& (32 : Int32)) = 32)) 256 0))) := by
  simp only [ao10_e1, bt_or, bt_and, bt_znt, bt_zit, bt_zbo, is_1, is_2, is_4, is_8, is_16, is_20, is_24, is_32, is_64, is_96, is_128, is_152, is_160, is_256, is_288, is_384, is_512, bl_0_9, bm_0_9, bl_1_9, bm_1_9, bl_2_9, bm_2_9, bl_8_9, bm_8_9, bl_16_9, bm_16_9, bl_32_9, bm_32_9, bl_64_9, bm_64_9, bl_128_9, bm_128_9, bl_256_9, bm_256_9, true_and, and_true, false_and, and_false, or_false, false_or, true_or, or_true, not_true_eq_false, not_false_eq_true, iff_self] <;> grind
theorem ja_c {p q t a b c : Int32} (hp : tB4 p) (hq : tB4 q) (ht : tB4 t) : ((((p + 1) = 1) ∧ (bt 3 a) ∧ (bt 4 a)) ∧ (((q + 1) = (t + 1)) ∧ (¬ ((t + 1) = 4)))) ↔ ((p = 0) ∧ ((a &&& (24 : Int32)) = 24) ∧ ((q = 0) ∨ (q = 2) ∨ (q = 1)) ∧ (q = t)) := by
  rcases hp with rfl | rfl | rfl | rfl <;> rcases hq with rfl | rfl | rfl | rfl <;> rcases ht with rfl | rfl | rfl | rfl <;> simp [is_24]
theorem ja_m {p q t a b c tx ty tw : Int32} : ((((bt 9 a) ∨ (((¬ ((((0 : Int32) ||| tx) &&& (1 : Int32)) = 0)) ∧ (¬ ((ty &&& (2 : Int32)) = 0))) ∨ ((¬ ((((0 : Int32) ||| tx) &&& (2 : Int32)) = 0)) ∧ (¬ ((ty &&& (1 : Int32)) = 0)))) ∨ ((¬ ((((0 : Int32) ||| tx) &&& (4 : Int32)) = 0)) ∧ (¬ ((ty &&& (8 : Int32)) = 0))) ∨ ((¬ ((((0 : Int32) ||| tx) &&& (8 : Int32)) = 0)) ∧ (¬ ((ty &&& (4 : Int32)) = 0)))) ∨ (bt 9 b)) ∨ (bt 9 c)) ↔ tyMx 10 0 [(p, a, tx), (q, b, ty), (t, c, tw)] := by
  rw [tyMx_3]
  simp only [nz_1, nz_2, nz_4, nz_8, bt_or, bl_0_0, bl_0_1, bl_0_2, bl_0_3, false_or, Classical.not_not]
  simp only [tog, mxb]
  grind
theorem ja_l {p q t a b c tx ty tw : Int32} : (((0 : Int32) ||| tx) ||| ty) ||| tw = lkL 10 0 ||| lkAll [(p, a, tx), (q, b, ty), (t, c, tw)] := by
  show _ = (0 : Int32) ||| ((((0 : Int32) ||| tx) ||| ty) ||| tw)
  rw [Int32.zero_or]

theorem xj_A {d : Nat} {S : zS} (hF : zFin true S) (hd : 2 ≤ d) {n pl x y w : Nat} {p : Int32} {a : Int32} {tx : Int32} {q : Int32} {b : Int32} {ty : Int32} {t : Int32} {c : Int32} {tw : Int32} (hn0 : 1639 ≤ n) (hn : n < gN S) (hx : x < gN S) (hxn : x ≠ n) (hcx : zNc (ztyp S x) = true) (hy : y < gN S) (hyn : y ≠ n) (hcy : zNc (ztyp S y) = true) (hw : w < gN S) (hwn : w ≠ n) (hcw : zNc (ztyp S w) = true) (hN2 : gN S < 1900000) (htn : ztyp S n = 19) (hpx : gP S 183 n = some x) (hpy : gP S 184 n = some y) (hpw : gP S 185 n = some w) (hpl : gI S 144 n = Int32.ofNat pl) (hXx : xTy S x (p, a, tx)) (hXy : xTy S y (q, b, ty)) (hXw : xTy S w (t, c, tw)) (hm0 : gI S 156 n = 0) (ht0 : gI S 146 n = 0) (h4x : tB4 p) (h4y : tB4 q) (h4w : tB4 t) {post : Outcome × zS → Prop}
    (h1 : ∀ t S', zFin true S' → tyN 10 0 [(p, a, tx), (q, b, ty), (t, c, tw)] = some t → xJd S n S' → xTy S' n t → post (.returned none, S'))
    (h2 : tyN 10 0 [(p, a, tx), (q, b, ty), (t, c, tw)] = none → ∀ S' q, zFin true S' → xFn S n S' → xFl S' q 3 pl → gN S + 1 = gN S' ∧ gZ S' ≤ gZ S + 3 → post (.threw q, S')) : zCall d 360 [.ref n] S post := by
  have hm0' : gI S 156 n = zbo False := hm0.trans (zbo_neg id).symm
  refine aj_ hF (by omega) n x y w p q t a b c tx ty tw hn0 hn hx hxn hy hyn hw hwn hcx hcy hcw hN2 htn hpx hpy hpw hXx.1 hXx.2.1.1 hXx.2.1.2.1 hXx.2.1.2.2.1 hXx.2.1.2.2.2.1 hXx.2.1.2.2.2.2.1 hXx.2.1.2.2.2.2.2.1 hXx.2.1.2.2.2.2.2.2.1 hXx.2.1.2.2.2.2.2.2.2.1 hXx.2.1.2.2.2.2.2.2.2.2.1 hXx.2.1.2.2.2.2.2.2.2.2.2 hXx.2.2 hXy.1 hXy.2.1.1 hXy.2.1.2.1 hXy.2.1.2.2.1 hXy.2.1.2.2.2.1 hXy.2.1.2.2.2.2.1 hXy.2.1.2.2.2.2.2.1 hXy.2.1.2.2.2.2.2.2.1 hXy.2.1.2.2.2.2.2.2.2.1 hXy.2.1.2.2.2.2.2.2.2.2.1 hXy.2.1.2.2.2.2.2.2.2.2.2 hXy.2.2 hXw.1 hXw.2.1.1 hXw.2.1.2.1 hXw.2.1.2.2.1 hXw.2.1.2.2.2.1 hXw.2.1.2.2.2.2.1 hXw.2.1.2.2.2.2.2.1 hXw.2.1.2.2.2.2.2.2.1 hXw.2.1.2.2.2.2.2.2.2.1 hXw.2.1.2.2.2.2.2.2.2.2.1 hXw.2.1.2.2.2.2.2.2.2.2.2 hXw.2.2 hm0' ht0 (fun c0 c1 => ?_) (fun c => ?_)
  · have hq : tyB 10 0 [(p, a, tx), (q, b, ty), (t, c, tw)] = some (q, (ao10_e1 a b c) ||| (Int32.ofNat (znt (((((a &&& b) &&& c) &&& (256 : Int32)) = 256) ∧ ((a &&& (128 : Int32)) = 128) ∧ ((((a ||| b) ||| c) &&& (32 : Int32)) = 32)) 256 0))) := (rfl : tyB 10 0 [(p, a, tx), (q, b, ty), (t, c, tw)] = tyA10 p q t a b c).trans (zop_pos ((ja_c h4x h4y h4w).mp ⟨c0, c1⟩))
    refine h1 _ _ (by first | exact hF | exact hF) (tyN_some hq) (xJd_s (xJd_s (xJd_s (xJd_s (xJd_s (xJd_s (xJd_s (xJd_s (xJd_s (xJd_s (xJd_s (xJd_s (xJd_s (xJd_s (xJd_s (xJd_s (xJd_s xJd.rf (by decide)) (by decide)) (by decide)) (by decide)) (by decide)) (by decide)) (by decide)) (by decide)) (by decide)) (by decide)) (by decide)) (by decide)) (by decide)) (by decide)) (by decide)) (by decide)) (by decide)) (xTy_mk (b := q) (f := (ao10_e1 a b c) ||| (Int32.ofNat (znt (((((a &&& b) &&& c) &&& (256 : Int32)) = 256) ∧ ((a &&& (128 : Int32)) = 128) ∧ ((((a ||| b) ||| c) &&& (32 : Int32)) = 32)) 256 0))) (MX := tyMx 10 0 [(p, a, tx), (q, b, ty), (t, c, tw)]) ((gI_sI_nf (by decide)).trans ((gI_sI_nf (by decide)).trans ((gI_sI_nf (by decide)).trans ((gI_sI_nf (by decide)).trans ((gI_sI_nf (by decide)).trans ((gI_sI_nf (by decide)).trans ((gI_sI_nf (by decide)).trans ((gI_sI_nf (by decide)).trans ((gI_sI_nf (by decide)).trans ((gI_sI_nf (by decide)).trans ((gI_sI_nf (by decide)).trans ((gI_sI_nf (by decide)).trans ((gI_sI_nf (by decide)).trans ((gI_sI_nf (by decide)).trans ((gI_sI_nf (by decide)).trans ((gI_sI_nf (by decide)).trans (gI_sI_at)))))))))))))))))
        ((gI_sI_nf (by decide)).trans ((gI_sI_nf (by decide)).trans ((gI_sI_nf (by decide)).trans ((gI_sI_nf (by decide)).trans ((gI_sI_nf (by decide)).trans ((gI_sI_nf (by decide)).trans ((gI_sI_nf (by decide)).trans ((gI_sI_nf (by decide)).trans ((gI_sI_nf (by decide)).trans ((gI_sI_nf (by decide)).trans ((gI_sI_nf (by decide)).trans ((gI_sI_nf (by decide)).trans ((gI_sI_nf (by decide)).trans ((gI_sI_nf (by decide)).trans ((gI_sI_nf (by decide)).trans (gI_sI_at))))))))))))))))
        ((gI_sI_nf (by decide)).trans ((gI_sI_nf (by decide)).trans ((gI_sI_nf (by decide)).trans ((gI_sI_nf (by decide)).trans ((gI_sI_nf (by decide)).trans ((gI_sI_nf (by decide)).trans ((gI_sI_nf (by decide)).trans ((gI_sI_nf (by decide)).trans ((gI_sI_nf (by decide)).trans ((gI_sI_nf (by decide)).trans ((gI_sI_nf (by decide)).trans ((gI_sI_nf (by decide)).trans ((gI_sI_nf (by decide)).trans ((gI_sI_nf (by decide)).trans (gI_sI_at)))))))))))))))
        (((gI_sI_nf (by decide)).trans ((gI_sI_nf (by decide)).trans ((gI_sI_nf (by decide)).trans ((gI_sI_nf (by decide)).trans ((gI_sI_nf (by decide)).trans ((gI_sI_nf (by decide)).trans ((gI_sI_nf (by decide)).trans ((gI_sI_nf (by decide)).trans ((gI_sI_nf (by decide)).trans ((gI_sI_nf (by decide)).trans ((gI_sI_nf (by decide)).trans ((gI_sI_nf (by decide)).trans ((gI_sI_nf (by decide)).trans (gI_sI_at)))))))))))))).trans (zbo_neg id).symm)
        ((gI_sI_nf (by decide)).trans ((gI_sI_nf (by decide)).trans ((gI_sI_nf (by decide)).trans ((gI_sI_nf (by decide)).trans ((gI_sI_nf (by decide)).trans ((gI_sI_nf (by decide)).trans ((gI_sI_nf (by decide)).trans ((gI_sI_nf (by decide)).trans ((gI_sI_nf (by decide)).trans ((gI_sI_nf (by decide)).trans ((gI_sI_nf (by decide)).trans ((gI_sI_nf (by decide)).trans (gI_sI_at)))))))))))))
        ((gI_sI_nf (by decide)).trans ((gI_sI_nf (by decide)).trans ((gI_sI_nf (by decide)).trans ((gI_sI_nf (by decide)).trans ((gI_sI_nf (by decide)).trans ((gI_sI_nf (by decide)).trans ((gI_sI_nf (by decide)).trans ((gI_sI_nf (by decide)).trans ((gI_sI_nf (by decide)).trans ((gI_sI_nf (by decide)).trans ((gI_sI_nf (by decide)).trans (gI_sI_at))))))))))))
        ((gI_sI_nf (by decide)).trans ((gI_sI_nf (by decide)).trans ((gI_sI_nf (by decide)).trans ((gI_sI_nf (by decide)).trans ((gI_sI_nf (by decide)).trans ((gI_sI_nf (by decide)).trans ((gI_sI_nf (by decide)).trans ((gI_sI_nf (by decide)).trans ((gI_sI_nf (by decide)).trans ((gI_sI_nf (by decide)).trans (gI_sI_at)))))))))))
        ((gI_sI_nf (by decide)).trans ((gI_sI_nf (by decide)).trans ((gI_sI_nf (by decide)).trans ((gI_sI_nf (by decide)).trans ((gI_sI_nf (by decide)).trans ((gI_sI_nf (by decide)).trans ((gI_sI_nf (by decide)).trans ((gI_sI_nf (by decide)).trans ((gI_sI_nf (by decide)).trans (gI_sI_at))))))))))
        ((gI_sI_nf (by decide)).trans ((gI_sI_nf (by decide)).trans ((gI_sI_nf (by decide)).trans ((gI_sI_nf (by decide)).trans ((gI_sI_nf (by decide)).trans ((gI_sI_nf (by decide)).trans ((gI_sI_nf (by decide)).trans ((gI_sI_nf (by decide)).trans (gI_sI_at)))))))))
        ((gI_sI_nf (by decide)).trans ((gI_sI_nf (by decide)).trans ((gI_sI_nf (by decide)).trans ((gI_sI_nf (by decide)).trans ((gI_sI_nf (by decide)).trans ((gI_sI_nf (by decide)).trans ((gI_sI_nf (by decide)).trans (gI_sI_at))))))))
        ((gI_sI_nf (by decide)).trans (gI_sI_at))
        (gI_sI_at) ja_0 ja_1 ja_2 ja_3 ja_4 ja_5 ja_6 ja_7 ja_8 ja_9 ja_m ja_l)
  · obtain ⟨g0, g1, g2, g3, g4⟩ := xF_new hF (by omega) hN2 3 3 pl rfl hpl
    exact h2 (tyN_none ((rfl : tyB 10 0 [(p, a, tx), (q, b, ty), (t, c, tw)] = tyA10 p q t a b c).trans (zop_neg (fun x => c.elim (fun y => y ((ja_c h4x h4y h4w).mpr x).1) (fun y => y ((ja_c h4x h4y h4w).mpr x).2))))) _ _ g0 g1.n g2 ⟨g3, g4⟩

theorem xj_B0 {d : Nat} {S : zS} (hF : zFin true S) (hd : 2 ≤ d) {n v : Nat} (hn0 : 1639 ≤ n) (hn : n < gN S) (htn : ztyp S n = 16) (hi : gI S 173 n = Int32.ofNat 0) (hm0 : gI S 156 n = 0) (ht0 : gI S 146 n = 0) {post : Outcome × zS → Prop}
    (h1 : ∀ t S', zFin true S' → tyN 0 v [] = some t → xJd S n S' → xTy S' n t → post (.returned none, S')) : zCall d 333 [.ref n] S post := by
  have hm0' : gI S 156 n = zbo False := hm0.trans (zbo_neg id).symm
  refine tj_0 hF (by omega) n  hn0 hn htn hi hm0' ht0 ?_
  have hq : tyB 0 v [] = some ((0 : Int32), (441 : Int32)) := tyB_L (by omega)
  exact h1 _ _ hF (tyN_some hq) (xJd_s (xJd_s (xJd_s (xJd_s (xJd_s (xJd_s (xJd_s (xJd_s (xJd_s (xJd_s xJd.rf (by decide)) (by decide)) (by decide)) (by decide)) (by decide)) (by decide)) (by decide)) (by decide)) (by decide)) (by decide)) (xTy_mk (b := 0) (f := 441) (MX := tyMx 0 v []) (((gI_sI_nf (by decide)).trans ((gI_sI_nf (by decide)).trans ((gI_sI_nf (by decide)).trans ((gI_sI_nf (by decide)).trans ((gI_sI_nf (by decide)).trans ((gI_sI_nf (by decide)).trans ((gI_sI_nf (by decide)).trans ((gI_sI_nf (by decide)).trans ((gI_sI_nf (by decide)).trans (gI_sI_at)))))))))).trans (show (1 : Int32) = 0 + 1 from by decide))
      (((gI_sI_nf (by decide)).trans ((gI_sI_nf (by decide)).trans ((gI_sI_nf (by decide)).trans ((gI_sI_nf (by decide)).trans ((gI_sI_nf (by decide)).trans ((gI_sI_nf (by decide)).trans ((gI_sI_nf (by decide)).trans ((gI_sI_nf (by decide)).trans (gI_sI_at))))))))).trans (zbo_pos trivial).symm)
      (((gI_sI_nf (by decide)).trans ((gI_sI_nf (by decide)).trans ((gI_sI_nf (by decide)).trans ((gI_sI_nf (by decide)).trans ((gI_sI_nf (by decide)).trans ((gI_sI_nf (by decide)).trans ((gI_sI_nf (by decide)).trans (gI_sI_at)))))))).trans (zbo_neg id).symm)
      (((gI_sI_nf (by decide)).trans ((gI_sI_nf (by decide)).trans ((gI_sI_nf (by decide)).trans ((gI_sI_nf (by decide)).trans ((gI_sI_nf (by decide)).trans ((gI_sI_nf (by decide)).trans (gI_sI_at))))))).trans (zbo_neg id).symm)
      (((gI_sI_nf (by decide)).trans ((gI_sI_nf (by decide)).trans ((gI_sI_nf (by decide)).trans ((gI_sI_nf (by decide)).trans ((gI_sI_nf (by decide)).trans (gI_sI_at)))))).trans (zbo_pos trivial).symm)
      (((gI_sI_nf (by decide)).trans ((gI_sI_nf (by decide)).trans ((gI_sI_nf (by decide)).trans ((gI_sI_nf (by decide)).trans (gI_sI_at))))).trans (zbo_pos trivial).symm)
      (((gI_sI_nf (by decide)).trans ((gI_sI_nf (by decide)).trans ((gI_sI_nf (by decide)).trans (gI_sI_at)))).trans (zbo_pos trivial).symm)
      (((gI_sI_nf (by decide)).trans ((gI_sI_nf (by decide)).trans (gI_sI_at))).trans (zbo_neg id).symm)
      (((gI_sI_nf (by decide)).trans (gI_sI_at)).trans (zbo_pos trivial).symm)
      ((gI_sI_at).trans (zbo_pos trivial).symm)
      ((gI_sI_nf (by decide)).trans ((gI_sI_nf (by decide)).trans ((gI_sI_nf (by decide)).trans ((gI_sI_nf (by decide)).trans ((gI_sI_nf (by decide)).trans ((gI_sI_nf (by decide)).trans ((gI_sI_nf (by decide)).trans ((gI_sI_nf (by decide)).trans ((gI_sI_nf (by decide)).trans ((gI_sI_nf (by decide)).trans (hm0')))))))))))
      ((gI_sI_nf (by decide)).trans ((gI_sI_nf (by decide)).trans ((gI_sI_nf (by decide)).trans ((gI_sI_nf (by decide)).trans ((gI_sI_nf (by decide)).trans ((gI_sI_nf (by decide)).trans ((gI_sI_nf (by decide)).trans ((gI_sI_nf (by decide)).trans ((gI_sI_nf (by decide)).trans ((gI_sI_nf (by decide)).trans (ht0))))))))))) (by unfold bt; decide) (by unfold bt; decide) (by unfold bt; decide) (by unfold bt; decide) (by unfold bt; decide) (by unfold bt; decide) (by unfold bt; decide) (by unfold bt; decide) (by unfold bt; decide) (by unfold bt; decide) ⟨fun h => h.elim, fun h => absurd h tyMx_0⟩ rfl)

theorem xj_B1 {d : Nat} {S : zS} (hF : zFin true S) (hd : 2 ≤ d) {n v : Nat} (hn0 : 1639 ≤ n) (hn : n < gN S) (htn : ztyp S n = 16) (hi : gI S 173 n = Int32.ofNat 1) (hm0 : gI S 156 n = 0) (ht0 : gI S 146 n = 0) {post : Outcome × zS → Prop}
    (h1 : ∀ t S', zFin true S' → tyN 1 v [] = some t → xJd S n S' → xTy S' n t → post (.returned none, S')) : zCall d 333 [.ref n] S post := by
  have hm0' : gI S 156 n = zbo False := hm0.trans (zbo_neg id).symm
  refine tj_1 hF (by omega) n  hn0 hn htn hi hm0' ht0 ?_
  have hq : tyB 1 v [] = some ((0 : Int32), (337 : Int32)) := tyB_L (by omega)
  exact h1 _ _ hF (tyN_some hq) (xJd_s (xJd_s (xJd_s (xJd_s (xJd_s (xJd_s (xJd_s (xJd_s (xJd_s (xJd_s xJd.rf (by decide)) (by decide)) (by decide)) (by decide)) (by decide)) (by decide)) (by decide)) (by decide)) (by decide)) (by decide)) (xTy_mk (b := 0) (f := 337) (MX := tyMx 1 v []) (((gI_sI_nf (by decide)).trans ((gI_sI_nf (by decide)).trans ((gI_sI_nf (by decide)).trans ((gI_sI_nf (by decide)).trans ((gI_sI_nf (by decide)).trans ((gI_sI_nf (by decide)).trans ((gI_sI_nf (by decide)).trans ((gI_sI_nf (by decide)).trans ((gI_sI_nf (by decide)).trans (gI_sI_at)))))))))).trans (show (1 : Int32) = 0 + 1 from by decide))
      (((gI_sI_nf (by decide)).trans ((gI_sI_nf (by decide)).trans ((gI_sI_nf (by decide)).trans ((gI_sI_nf (by decide)).trans ((gI_sI_nf (by decide)).trans ((gI_sI_nf (by decide)).trans ((gI_sI_nf (by decide)).trans ((gI_sI_nf (by decide)).trans (gI_sI_at))))))))).trans (zbo_pos trivial).symm)
      (((gI_sI_nf (by decide)).trans ((gI_sI_nf (by decide)).trans ((gI_sI_nf (by decide)).trans ((gI_sI_nf (by decide)).trans ((gI_sI_nf (by decide)).trans ((gI_sI_nf (by decide)).trans ((gI_sI_nf (by decide)).trans (gI_sI_at)))))))).trans (zbo_neg id).symm)
      (((gI_sI_nf (by decide)).trans ((gI_sI_nf (by decide)).trans ((gI_sI_nf (by decide)).trans ((gI_sI_nf (by decide)).trans ((gI_sI_nf (by decide)).trans ((gI_sI_nf (by decide)).trans (gI_sI_at))))))).trans (zbo_neg id).symm)
      (((gI_sI_nf (by decide)).trans ((gI_sI_nf (by decide)).trans ((gI_sI_nf (by decide)).trans ((gI_sI_nf (by decide)).trans ((gI_sI_nf (by decide)).trans (gI_sI_at)))))).trans (zbo_neg id).symm)
      (((gI_sI_nf (by decide)).trans ((gI_sI_nf (by decide)).trans ((gI_sI_nf (by decide)).trans ((gI_sI_nf (by decide)).trans (gI_sI_at))))).trans (zbo_pos trivial).symm)
      (((gI_sI_nf (by decide)).trans ((gI_sI_nf (by decide)).trans ((gI_sI_nf (by decide)).trans (gI_sI_at)))).trans (zbo_neg id).symm)
      (((gI_sI_nf (by decide)).trans ((gI_sI_nf (by decide)).trans (gI_sI_at))).trans (zbo_pos trivial).symm)
      (((gI_sI_nf (by decide)).trans (gI_sI_at)).trans (zbo_neg id).symm)
      ((gI_sI_at).trans (zbo_pos trivial).symm)
      ((gI_sI_nf (by decide)).trans ((gI_sI_nf (by decide)).trans ((gI_sI_nf (by decide)).trans ((gI_sI_nf (by decide)).trans ((gI_sI_nf (by decide)).trans ((gI_sI_nf (by decide)).trans ((gI_sI_nf (by decide)).trans ((gI_sI_nf (by decide)).trans ((gI_sI_nf (by decide)).trans ((gI_sI_nf (by decide)).trans (hm0')))))))))))
      ((gI_sI_nf (by decide)).trans ((gI_sI_nf (by decide)).trans ((gI_sI_nf (by decide)).trans ((gI_sI_nf (by decide)).trans ((gI_sI_nf (by decide)).trans ((gI_sI_nf (by decide)).trans ((gI_sI_nf (by decide)).trans ((gI_sI_nf (by decide)).trans ((gI_sI_nf (by decide)).trans ((gI_sI_nf (by decide)).trans (ht0))))))))))) (by unfold bt; decide) (by unfold bt; decide) (by unfold bt; decide) (by unfold bt; decide) (by unfold bt; decide) (by unfold bt; decide) (by unfold bt; decide) (by unfold bt; decide) (by unfold bt; decide) (by unfold bt; decide) ⟨fun h => h.elim, fun h => absurd h tyMx_0⟩ rfl)

theorem xj_K2 {d : Nat} {S : zS} (hF : zFin true S) (hd : 2 ≤ d) {n v : Nat} (hn0 : 1639 ≤ n) (hn : n < gN S) (htn : ztyp S n = 13) (hi : gI S 165 n = Int32.ofNat 0) (hm0 : gI S 156 n = 0) (ht0 : gI S 146 n = 0) {post : Outcome × zS → Prop}
    (h1 : ∀ t S', zFin true S' → tyN 2 v [] = some t → xJd S n S' → xTy S' n t → post (.returned none, S')) : zCall d 311 [.ref n] S post := by
  have hm0' : gI S 156 n = zbo False := hm0.trans (zbo_neg id).symm
  refine kj_2 hF (by omega) n  hn0 hn htn hi hm0' ht0 ?_
  have hq : tyB 2 v [] = some ((2 : Int32), (446 : Int32)) := tyB_L (by omega)
  exact h1 _ _ hF (tyN_some hq) (xJd_s (xJd_s (xJd_s (xJd_s (xJd_s (xJd_s (xJd_s (xJd_s (xJd_s (xJd_s xJd.rf (by decide)) (by decide)) (by decide)) (by decide)) (by decide)) (by decide)) (by decide)) (by decide)) (by decide)) (by decide)) (xTy_mk (b := 2) (f := 446) (MX := tyMx 2 v []) (((gI_sI_nf (by decide)).trans ((gI_sI_nf (by decide)).trans ((gI_sI_nf (by decide)).trans ((gI_sI_nf (by decide)).trans ((gI_sI_nf (by decide)).trans ((gI_sI_nf (by decide)).trans ((gI_sI_nf (by decide)).trans ((gI_sI_nf (by decide)).trans ((gI_sI_nf (by decide)).trans (gI_sI_at)))))))))).trans (show (3 : Int32) = 2 + 1 from by decide))
      (((gI_sI_nf (by decide)).trans ((gI_sI_nf (by decide)).trans ((gI_sI_nf (by decide)).trans ((gI_sI_nf (by decide)).trans ((gI_sI_nf (by decide)).trans ((gI_sI_nf (by decide)).trans ((gI_sI_nf (by decide)).trans ((gI_sI_nf (by decide)).trans (gI_sI_at))))))))).trans (zbo_neg id).symm)
      (((gI_sI_nf (by decide)).trans ((gI_sI_nf (by decide)).trans ((gI_sI_nf (by decide)).trans ((gI_sI_nf (by decide)).trans ((gI_sI_nf (by decide)).trans ((gI_sI_nf (by decide)).trans ((gI_sI_nf (by decide)).trans (gI_sI_at)))))))).trans (zbo_pos trivial).symm)
      (((gI_sI_nf (by decide)).trans ((gI_sI_nf (by decide)).trans ((gI_sI_nf (by decide)).trans ((gI_sI_nf (by decide)).trans ((gI_sI_nf (by decide)).trans ((gI_sI_nf (by decide)).trans (gI_sI_at))))))).trans (zbo_pos trivial).symm)
      (((gI_sI_nf (by decide)).trans ((gI_sI_nf (by decide)).trans ((gI_sI_nf (by decide)).trans ((gI_sI_nf (by decide)).trans ((gI_sI_nf (by decide)).trans (gI_sI_at)))))).trans (zbo_pos trivial).symm)
      (((gI_sI_nf (by decide)).trans ((gI_sI_nf (by decide)).trans ((gI_sI_nf (by decide)).trans ((gI_sI_nf (by decide)).trans (gI_sI_at))))).trans (zbo_pos trivial).symm)
      (((gI_sI_nf (by decide)).trans ((gI_sI_nf (by decide)).trans ((gI_sI_nf (by decide)).trans (gI_sI_at)))).trans (zbo_pos trivial).symm)
      (((gI_sI_nf (by decide)).trans ((gI_sI_nf (by decide)).trans (gI_sI_at))).trans (zbo_neg id).symm)
      (((gI_sI_nf (by decide)).trans (gI_sI_at)).trans (zbo_pos trivial).symm)
      ((gI_sI_at).trans (zbo_pos trivial).symm)
      ((gI_sI_nf (by decide)).trans ((gI_sI_nf (by decide)).trans ((gI_sI_nf (by decide)).trans ((gI_sI_nf (by decide)).trans ((gI_sI_nf (by decide)).trans ((gI_sI_nf (by decide)).trans ((gI_sI_nf (by decide)).trans ((gI_sI_nf (by decide)).trans ((gI_sI_nf (by decide)).trans ((gI_sI_nf (by decide)).trans (hm0')))))))))))
      ((gI_sI_nf (by decide)).trans ((gI_sI_nf (by decide)).trans ((gI_sI_nf (by decide)).trans ((gI_sI_nf (by decide)).trans ((gI_sI_nf (by decide)).trans ((gI_sI_nf (by decide)).trans ((gI_sI_nf (by decide)).trans ((gI_sI_nf (by decide)).trans ((gI_sI_nf (by decide)).trans ((gI_sI_nf (by decide)).trans (ht0))))))))))) (by unfold bt; decide) (by unfold bt; decide) (by unfold bt; decide) (by unfold bt; decide) (by unfold bt; decide) (by unfold bt; decide) (by unfold bt; decide) (by unfold bt; decide) (by unfold bt; decide) (by unfold bt; decide) ⟨fun h => h.elim, fun h => absurd h tyMx_0⟩ rfl)

theorem xj_K3 {d : Nat} {S : zS} (hF : zFin true S) (hd : 2 ≤ d) {n v : Nat} (hn0 : 1639 ≤ n) (hn : n < gN S) (htn : ztyp S n = 13) (hi : gI S 165 n = Int32.ofNat 1) (hm0 : gI S 156 n = 0) (ht0 : gI S 146 n = 0) {post : Outcome × zS → Prop}
    (h1 : ∀ t S', zFin true S' → tyN 3 v [] = some t → xJd S n S' → xTy S' n t → post (.returned none, S')) : zCall d 311 [.ref n] S post := by
  have hm0' : gI S 156 n = zbo False := hm0.trans (zbo_neg id).symm
  refine kj_3 hF (by omega) n  hn0 hn htn hi hm0' ht0 ?_
  have hq : tyB 3 v [] = some ((2 : Int32), (444 : Int32)) := tyB_L (by omega)
  exact h1 _ _ hF (tyN_some hq) (xJd_s (xJd_s (xJd_s (xJd_s (xJd_s (xJd_s (xJd_s (xJd_s (xJd_s (xJd_s xJd.rf (by decide)) (by decide)) (by decide)) (by decide)) (by decide)) (by decide)) (by decide)) (by decide)) (by decide)) (by decide)) (xTy_mk (b := 2) (f := 444) (MX := tyMx 3 v []) (((gI_sI_nf (by decide)).trans ((gI_sI_nf (by decide)).trans ((gI_sI_nf (by decide)).trans ((gI_sI_nf (by decide)).trans ((gI_sI_nf (by decide)).trans ((gI_sI_nf (by decide)).trans ((gI_sI_nf (by decide)).trans ((gI_sI_nf (by decide)).trans ((gI_sI_nf (by decide)).trans (gI_sI_at)))))))))).trans (show (3 : Int32) = 2 + 1 from by decide))
      (((gI_sI_nf (by decide)).trans ((gI_sI_nf (by decide)).trans ((gI_sI_nf (by decide)).trans ((gI_sI_nf (by decide)).trans ((gI_sI_nf (by decide)).trans ((gI_sI_nf (by decide)).trans ((gI_sI_nf (by decide)).trans ((gI_sI_nf (by decide)).trans (gI_sI_at))))))))).trans (zbo_neg id).symm)
      (((gI_sI_nf (by decide)).trans ((gI_sI_nf (by decide)).trans ((gI_sI_nf (by decide)).trans ((gI_sI_nf (by decide)).trans ((gI_sI_nf (by decide)).trans ((gI_sI_nf (by decide)).trans ((gI_sI_nf (by decide)).trans (gI_sI_at)))))))).trans (zbo_neg id).symm)
      (((gI_sI_nf (by decide)).trans ((gI_sI_nf (by decide)).trans ((gI_sI_nf (by decide)).trans ((gI_sI_nf (by decide)).trans ((gI_sI_nf (by decide)).trans ((gI_sI_nf (by decide)).trans (gI_sI_at))))))).trans (zbo_pos trivial).symm)
      (((gI_sI_nf (by decide)).trans ((gI_sI_nf (by decide)).trans ((gI_sI_nf (by decide)).trans ((gI_sI_nf (by decide)).trans ((gI_sI_nf (by decide)).trans (gI_sI_at)))))).trans (zbo_pos trivial).symm)
      (((gI_sI_nf (by decide)).trans ((gI_sI_nf (by decide)).trans ((gI_sI_nf (by decide)).trans ((gI_sI_nf (by decide)).trans (gI_sI_at))))).trans (zbo_pos trivial).symm)
      (((gI_sI_nf (by decide)).trans ((gI_sI_nf (by decide)).trans ((gI_sI_nf (by decide)).trans (gI_sI_at)))).trans (zbo_pos trivial).symm)
      (((gI_sI_nf (by decide)).trans ((gI_sI_nf (by decide)).trans (gI_sI_at))).trans (zbo_neg id).symm)
      (((gI_sI_nf (by decide)).trans (gI_sI_at)).trans (zbo_pos trivial).symm)
      ((gI_sI_at).trans (zbo_pos trivial).symm)
      ((gI_sI_nf (by decide)).trans ((gI_sI_nf (by decide)).trans ((gI_sI_nf (by decide)).trans ((gI_sI_nf (by decide)).trans ((gI_sI_nf (by decide)).trans ((gI_sI_nf (by decide)).trans ((gI_sI_nf (by decide)).trans ((gI_sI_nf (by decide)).trans ((gI_sI_nf (by decide)).trans ((gI_sI_nf (by decide)).trans (hm0')))))))))))
      ((gI_sI_nf (by decide)).trans ((gI_sI_nf (by decide)).trans ((gI_sI_nf (by decide)).trans ((gI_sI_nf (by decide)).trans ((gI_sI_nf (by decide)).trans ((gI_sI_nf (by decide)).trans ((gI_sI_nf (by decide)).trans ((gI_sI_nf (by decide)).trans ((gI_sI_nf (by decide)).trans ((gI_sI_nf (by decide)).trans (ht0))))))))))) (by unfold bt; decide) (by unfold bt; decide) (by unfold bt; decide) (by unfold bt; decide) (by unfold bt; decide) (by unfold bt; decide) (by unfold bt; decide) (by unfold bt; decide) (by unfold bt; decide) (by unfold bt; decide) ⟨fun h => h.elim, fun h => absurd h tyMx_0⟩ rfl)

theorem xj_T4 {d : Nat} {S : zS} (hF : zFin true S) (hd : 2 ≤ d) {n v : Nat} (hn0 : 1639 ≤ n) (hn : n < gN S) (htn : ztyp S n = 14) (hv1 : v < 2147483648) (hi : gI S 168 n = Int32.ofNat 1) (hv : gI S 167 n = Int32.ofNat v) (hm0 : gI S 156 n = 0) (ht0 : gI S 146 n = 0) {post : Outcome × zS → Prop}
    (h1 : ∀ t S', zFin true S' → tyN 4 v [] = some t → xJd S n S' → xTy S' n t → post (.returned none, S')) : zCall d 319 [.ref n] S post := by
  have hm0' : gI S 156 n = zbo False := hm0.trans (zbo_neg id).symm
  refine lj_4 hF (by omega) n v hn0 hn htn hv1 hi hv hm0' ht0 ?_
  have hq : tyB 4 v [] = some ((0 : Int32), (321 : Int32)) := tyB_L (by omega)
  exact h1 _ _ hF (tyN_some hq) (xJd_s (xJd_s (xJd_s (xJd_s (xJd_s (xJd_s (xJd_s (xJd_s (xJd_s (xJd_s (xJd_s xJd.rf (by decide)) (by decide)) (by decide)) (by decide)) (by decide)) (by decide)) (by decide)) (by decide)) (by decide)) (by decide)) (by decide)) (xTy_mk (b := 0) (f := 321) (MX := tyMx 4 v []) (((gI_sI_nf (by decide)).trans ((gI_sI_nf (by decide)).trans ((gI_sI_nf (by decide)).trans ((gI_sI_nf (by decide)).trans ((gI_sI_nf (by decide)).trans ((gI_sI_nf (by decide)).trans ((gI_sI_nf (by decide)).trans ((gI_sI_nf (by decide)).trans ((gI_sI_nf (by decide)).trans ((gI_sI_nf (by decide)).trans (gI_sI_at))))))))))).trans (show (1 : Int32) = 0 + 1 from by decide))
      (((gI_sI_nf (by decide)).trans ((gI_sI_nf (by decide)).trans ((gI_sI_nf (by decide)).trans ((gI_sI_nf (by decide)).trans ((gI_sI_nf (by decide)).trans ((gI_sI_nf (by decide)).trans ((gI_sI_nf (by decide)).trans ((gI_sI_nf (by decide)).trans ((gI_sI_nf (by decide)).trans (gI_sI_at)))))))))).trans (zbo_pos trivial).symm)
      (((gI_sI_nf (by decide)).trans ((gI_sI_nf (by decide)).trans ((gI_sI_nf (by decide)).trans ((gI_sI_nf (by decide)).trans ((gI_sI_nf (by decide)).trans ((gI_sI_nf (by decide)).trans ((gI_sI_nf (by decide)).trans ((gI_sI_nf (by decide)).trans (gI_sI_at))))))))).trans (zbo_neg id).symm)
      (((gI_sI_nf (by decide)).trans ((gI_sI_nf (by decide)).trans ((gI_sI_nf (by decide)).trans ((gI_sI_nf (by decide)).trans ((gI_sI_nf (by decide)).trans ((gI_sI_nf (by decide)).trans ((gI_sI_nf (by decide)).trans (gI_sI_at)))))))).trans (zbo_neg id).symm)
      (((gI_sI_nf (by decide)).trans ((gI_sI_nf (by decide)).trans ((gI_sI_nf (by decide)).trans ((gI_sI_nf (by decide)).trans ((gI_sI_nf (by decide)).trans ((gI_sI_nf (by decide)).trans (gI_sI_at))))))).trans (zbo_neg id).symm)
      (((gI_sI_nf (by decide)).trans ((gI_sI_nf (by decide)).trans ((gI_sI_nf (by decide)).trans ((gI_sI_nf (by decide)).trans ((gI_sI_nf (by decide)).trans (gI_sI_at)))))).trans (zbo_neg id).symm)
      (((gI_sI_nf (by decide)).trans ((gI_sI_nf (by decide)).trans ((gI_sI_nf (by decide)).trans ((gI_sI_nf (by decide)).trans (gI_sI_at))))).trans (zbo_neg id).symm)
      (((gI_sI_nf (by decide)).trans ((gI_sI_nf (by decide)).trans ((gI_sI_nf (by decide)).trans (gI_sI_at)))).trans (zbo_pos trivial).symm)
      (((gI_sI_nf (by decide)).trans ((gI_sI_nf (by decide)).trans (gI_sI_at))).trans (zbo_neg id).symm)
      (((gI_sI_nf (by decide)).trans (gI_sI_at)).trans (zbo_pos trivial).symm)
      ((gI_sI_nf (by decide)).trans ((gI_sI_nf (by decide)).trans ((gI_sI_nf (by decide)).trans ((gI_sI_nf (by decide)).trans ((gI_sI_nf (by decide)).trans ((gI_sI_nf (by decide)).trans ((gI_sI_nf (by decide)).trans ((gI_sI_nf (by decide)).trans ((gI_sI_nf (by decide)).trans ((gI_sI_nf (by decide)).trans ((gI_sI_nf (by decide)).trans (hm0'))))))))))))
      (gI_sI_at) (by unfold bt; decide) (by unfold bt; decide) (by unfold bt; decide) (by unfold bt; decide) (by unfold bt; decide) (by unfold bt; decide) (by unfold bt; decide) (by unfold bt; decide) (by unfold bt; decide) (by unfold bt; decide) ⟨fun h => h.elim, fun h => absurd h tyMx_0⟩ lk_4)

theorem xj_T5 {d : Nat} {S : zS} (hF : zFin true S) (hd : 2 ≤ d) {n v : Nat} (hn0 : 1639 ≤ n) (hn : n < gN S) (htn : ztyp S n = 14) (hv1 : v < 2147483648) (hi : gI S 168 n = Int32.ofNat 0) (hv : gI S 167 n = Int32.ofNat v) (hm0 : gI S 156 n = 0) (ht0 : gI S 146 n = 0) {post : Outcome × zS → Prop}
    (h1 : ∀ t S', zFin true S' → tyN 5 v [] = some t → xJd S n S' → xTy S' n t → post (.returned none, S')) : zCall d 319 [.ref n] S post := by
  have hm0' : gI S 156 n = zbo False := hm0.trans (zbo_neg id).symm
  refine lj_5 hF (by omega) n v hn0 hn htn hv1 hi hv hm0' ht0 ?_
  have hq : tyB 5 v [] = some ((0 : Int32), (321 : Int32)) := tyB_L (by omega)
  exact h1 _ _ hF (tyN_some hq) (xJd_s (xJd_s (xJd_s (xJd_s (xJd_s (xJd_s (xJd_s (xJd_s (xJd_s (xJd_s (xJd_s xJd.rf (by decide)) (by decide)) (by decide)) (by decide)) (by decide)) (by decide)) (by decide)) (by decide)) (by decide)) (by decide)) (by decide)) (xTy_mk (b := 0) (f := 321) (MX := tyMx 5 v []) (((gI_sI_nf (by decide)).trans ((gI_sI_nf (by decide)).trans ((gI_sI_nf (by decide)).trans ((gI_sI_nf (by decide)).trans ((gI_sI_nf (by decide)).trans ((gI_sI_nf (by decide)).trans ((gI_sI_nf (by decide)).trans ((gI_sI_nf (by decide)).trans ((gI_sI_nf (by decide)).trans ((gI_sI_nf (by decide)).trans (gI_sI_at))))))))))).trans (show (1 : Int32) = 0 + 1 from by decide))
      (((gI_sI_nf (by decide)).trans ((gI_sI_nf (by decide)).trans ((gI_sI_nf (by decide)).trans ((gI_sI_nf (by decide)).trans ((gI_sI_nf (by decide)).trans ((gI_sI_nf (by decide)).trans ((gI_sI_nf (by decide)).trans ((gI_sI_nf (by decide)).trans ((gI_sI_nf (by decide)).trans (gI_sI_at)))))))))).trans (zbo_pos trivial).symm)
      (((gI_sI_nf (by decide)).trans ((gI_sI_nf (by decide)).trans ((gI_sI_nf (by decide)).trans ((gI_sI_nf (by decide)).trans ((gI_sI_nf (by decide)).trans ((gI_sI_nf (by decide)).trans ((gI_sI_nf (by decide)).trans ((gI_sI_nf (by decide)).trans (gI_sI_at))))))))).trans (zbo_neg id).symm)
      (((gI_sI_nf (by decide)).trans ((gI_sI_nf (by decide)).trans ((gI_sI_nf (by decide)).trans ((gI_sI_nf (by decide)).trans ((gI_sI_nf (by decide)).trans ((gI_sI_nf (by decide)).trans ((gI_sI_nf (by decide)).trans (gI_sI_at)))))))).trans (zbo_neg id).symm)
      (((gI_sI_nf (by decide)).trans ((gI_sI_nf (by decide)).trans ((gI_sI_nf (by decide)).trans ((gI_sI_nf (by decide)).trans ((gI_sI_nf (by decide)).trans ((gI_sI_nf (by decide)).trans (gI_sI_at))))))).trans (zbo_neg id).symm)
      (((gI_sI_nf (by decide)).trans ((gI_sI_nf (by decide)).trans ((gI_sI_nf (by decide)).trans ((gI_sI_nf (by decide)).trans ((gI_sI_nf (by decide)).trans (gI_sI_at)))))).trans (zbo_neg id).symm)
      (((gI_sI_nf (by decide)).trans ((gI_sI_nf (by decide)).trans ((gI_sI_nf (by decide)).trans ((gI_sI_nf (by decide)).trans (gI_sI_at))))).trans (zbo_neg id).symm)
      (((gI_sI_nf (by decide)).trans ((gI_sI_nf (by decide)).trans ((gI_sI_nf (by decide)).trans (gI_sI_at)))).trans (zbo_pos trivial).symm)
      (((gI_sI_nf (by decide)).trans ((gI_sI_nf (by decide)).trans (gI_sI_at))).trans (zbo_neg id).symm)
      (((gI_sI_nf (by decide)).trans (gI_sI_at)).trans (zbo_pos trivial).symm)
      ((gI_sI_nf (by decide)).trans ((gI_sI_nf (by decide)).trans ((gI_sI_nf (by decide)).trans ((gI_sI_nf (by decide)).trans ((gI_sI_nf (by decide)).trans ((gI_sI_nf (by decide)).trans ((gI_sI_nf (by decide)).trans ((gI_sI_nf (by decide)).trans ((gI_sI_nf (by decide)).trans ((gI_sI_nf (by decide)).trans ((gI_sI_nf (by decide)).trans (hm0'))))))))))))
      (gI_sI_at) (by unfold bt; decide) (by unfold bt; decide) (by unfold bt; decide) (by unfold bt; decide) (by unfold bt; decide) (by unfold bt; decide) (by unfold bt; decide) (by unfold bt; decide) (by unfold bt; decide) (by unfold bt; decide) ⟨fun h => h.elim, fun h => absurd h tyMx_0⟩ lk_5)

theorem xj_I6 {d : Nat} {S : zS} (hF : zFin true S) (hd : 2 ≤ d) {n v : Nat} (hn0 : 1639 ≤ n) (hn : n < gN S) (htn : ztyp S n = 15)  (hm0 : gI S 156 n = 0) (ht0 : gI S 146 n = 0) {post : Outcome × zS → Prop}
    (h1 : ∀ t S', zFin true S' → tyN 6 v [] = some t → xJd S n S' → xTy S' n t → post (.returned none, S')) : zCall d 326 [.ref n] S post := by
  have hm0' : gI S 156 n = zbo False := hm0.trans (zbo_neg id).symm
  refine ij_ hF (by omega) n  hn0 hn htn  hm0' ht0 ?_
  have hq : tyB 6 v [] = some ((0 : Int32), (286 : Int32)) := tyB_L (by omega)
  exact h1 _ _ hF (tyN_some hq) (xJd_s (xJd_s (xJd_s (xJd_s (xJd_s (xJd_s (xJd_s (xJd_s (xJd_s (xJd_s xJd.rf (by decide)) (by decide)) (by decide)) (by decide)) (by decide)) (by decide)) (by decide)) (by decide)) (by decide)) (by decide)) (xTy_mk (b := 0) (f := 286) (MX := tyMx 6 v []) (((gI_sI_nf (by decide)).trans ((gI_sI_nf (by decide)).trans ((gI_sI_nf (by decide)).trans ((gI_sI_nf (by decide)).trans ((gI_sI_nf (by decide)).trans ((gI_sI_nf (by decide)).trans ((gI_sI_nf (by decide)).trans ((gI_sI_nf (by decide)).trans ((gI_sI_nf (by decide)).trans (gI_sI_at)))))))))).trans (show (1 : Int32) = 0 + 1 from by decide))
      (((gI_sI_nf (by decide)).trans ((gI_sI_nf (by decide)).trans ((gI_sI_nf (by decide)).trans ((gI_sI_nf (by decide)).trans ((gI_sI_nf (by decide)).trans ((gI_sI_nf (by decide)).trans ((gI_sI_nf (by decide)).trans ((gI_sI_nf (by decide)).trans (gI_sI_at))))))))).trans (zbo_neg id).symm)
      (((gI_sI_nf (by decide)).trans ((gI_sI_nf (by decide)).trans ((gI_sI_nf (by decide)).trans ((gI_sI_nf (by decide)).trans ((gI_sI_nf (by decide)).trans ((gI_sI_nf (by decide)).trans ((gI_sI_nf (by decide)).trans (gI_sI_at)))))))).trans (zbo_pos trivial).symm)
      (((gI_sI_nf (by decide)).trans ((gI_sI_nf (by decide)).trans ((gI_sI_nf (by decide)).trans ((gI_sI_nf (by decide)).trans ((gI_sI_nf (by decide)).trans ((gI_sI_nf (by decide)).trans (gI_sI_at))))))).trans (zbo_pos trivial).symm)
      (((gI_sI_nf (by decide)).trans ((gI_sI_nf (by decide)).trans ((gI_sI_nf (by decide)).trans ((gI_sI_nf (by decide)).trans ((gI_sI_nf (by decide)).trans (gI_sI_at)))))).trans (zbo_pos trivial).symm)
      (((gI_sI_nf (by decide)).trans ((gI_sI_nf (by decide)).trans ((gI_sI_nf (by decide)).trans ((gI_sI_nf (by decide)).trans (gI_sI_at))))).trans (zbo_pos trivial).symm)
      (((gI_sI_nf (by decide)).trans ((gI_sI_nf (by decide)).trans ((gI_sI_nf (by decide)).trans (gI_sI_at)))).trans (zbo_neg id).symm)
      (((gI_sI_nf (by decide)).trans ((gI_sI_nf (by decide)).trans (gI_sI_at))).trans (zbo_neg id).symm)
      (((gI_sI_nf (by decide)).trans (gI_sI_at)).trans (zbo_neg id).symm)
      ((gI_sI_at).trans (zbo_pos trivial).symm)
      ((gI_sI_nf (by decide)).trans ((gI_sI_nf (by decide)).trans ((gI_sI_nf (by decide)).trans ((gI_sI_nf (by decide)).trans ((gI_sI_nf (by decide)).trans ((gI_sI_nf (by decide)).trans ((gI_sI_nf (by decide)).trans ((gI_sI_nf (by decide)).trans ((gI_sI_nf (by decide)).trans ((gI_sI_nf (by decide)).trans (hm0')))))))))))
      ((gI_sI_nf (by decide)).trans ((gI_sI_nf (by decide)).trans ((gI_sI_nf (by decide)).trans ((gI_sI_nf (by decide)).trans ((gI_sI_nf (by decide)).trans ((gI_sI_nf (by decide)).trans ((gI_sI_nf (by decide)).trans ((gI_sI_nf (by decide)).trans ((gI_sI_nf (by decide)).trans ((gI_sI_nf (by decide)).trans (ht0))))))))))) (by unfold bt; decide) (by unfold bt; decide) (by unfold bt; decide) (by unfold bt; decide) (by unfold bt; decide) (by unfold bt; decide) (by unfold bt; decide) (by unfold bt; decide) (by unfold bt; decide) (by unfold bt; decide) ⟨fun h => h.elim, fun h => absurd h tyMx_0⟩ rfl)

theorem xj_I7 {d : Nat} {S : zS} (hF : zFin true S) (hd : 2 ≤ d) {n v : Nat} (hn0 : 1639 ≤ n) (hn : n < gN S) (htn : ztyp S n = 15)  (hm0 : gI S 156 n = 0) (ht0 : gI S 146 n = 0) {post : Outcome × zS → Prop}
    (h1 : ∀ t S', zFin true S' → tyN 7 v [] = some t → xJd S n S' → xTy S' n t → post (.returned none, S')) : zCall d 326 [.ref n] S post := by
  have hm0' : gI S 156 n = zbo False := hm0.trans (zbo_neg id).symm
  refine ij_ hF (by omega) n  hn0 hn htn  hm0' ht0 ?_
  have hq : tyB 7 v [] = some ((0 : Int32), (286 : Int32)) := tyB_L (by omega)
  exact h1 _ _ hF (tyN_some hq) (xJd_s (xJd_s (xJd_s (xJd_s (xJd_s (xJd_s (xJd_s (xJd_s (xJd_s (xJd_s xJd.rf (by decide)) (by decide)) (by decide)) (by decide)) (by decide)) (by decide)) (by decide)) (by decide)) (by decide)) (by decide)) (xTy_mk (b := 0) (f := 286) (MX := tyMx 7 v []) (((gI_sI_nf (by decide)).trans ((gI_sI_nf (by decide)).trans ((gI_sI_nf (by decide)).trans ((gI_sI_nf (by decide)).trans ((gI_sI_nf (by decide)).trans ((gI_sI_nf (by decide)).trans ((gI_sI_nf (by decide)).trans ((gI_sI_nf (by decide)).trans ((gI_sI_nf (by decide)).trans (gI_sI_at)))))))))).trans (show (1 : Int32) = 0 + 1 from by decide))
      (((gI_sI_nf (by decide)).trans ((gI_sI_nf (by decide)).trans ((gI_sI_nf (by decide)).trans ((gI_sI_nf (by decide)).trans ((gI_sI_nf (by decide)).trans ((gI_sI_nf (by decide)).trans ((gI_sI_nf (by decide)).trans ((gI_sI_nf (by decide)).trans (gI_sI_at))))))))).trans (zbo_neg id).symm)
      (((gI_sI_nf (by decide)).trans ((gI_sI_nf (by decide)).trans ((gI_sI_nf (by decide)).trans ((gI_sI_nf (by decide)).trans ((gI_sI_nf (by decide)).trans ((gI_sI_nf (by decide)).trans ((gI_sI_nf (by decide)).trans (gI_sI_at)))))))).trans (zbo_pos trivial).symm)
      (((gI_sI_nf (by decide)).trans ((gI_sI_nf (by decide)).trans ((gI_sI_nf (by decide)).trans ((gI_sI_nf (by decide)).trans ((gI_sI_nf (by decide)).trans ((gI_sI_nf (by decide)).trans (gI_sI_at))))))).trans (zbo_pos trivial).symm)
      (((gI_sI_nf (by decide)).trans ((gI_sI_nf (by decide)).trans ((gI_sI_nf (by decide)).trans ((gI_sI_nf (by decide)).trans ((gI_sI_nf (by decide)).trans (gI_sI_at)))))).trans (zbo_pos trivial).symm)
      (((gI_sI_nf (by decide)).trans ((gI_sI_nf (by decide)).trans ((gI_sI_nf (by decide)).trans ((gI_sI_nf (by decide)).trans (gI_sI_at))))).trans (zbo_pos trivial).symm)
      (((gI_sI_nf (by decide)).trans ((gI_sI_nf (by decide)).trans ((gI_sI_nf (by decide)).trans (gI_sI_at)))).trans (zbo_neg id).symm)
      (((gI_sI_nf (by decide)).trans ((gI_sI_nf (by decide)).trans (gI_sI_at))).trans (zbo_neg id).symm)
      (((gI_sI_nf (by decide)).trans (gI_sI_at)).trans (zbo_neg id).symm)
      ((gI_sI_at).trans (zbo_pos trivial).symm)
      ((gI_sI_nf (by decide)).trans ((gI_sI_nf (by decide)).trans ((gI_sI_nf (by decide)).trans ((gI_sI_nf (by decide)).trans ((gI_sI_nf (by decide)).trans ((gI_sI_nf (by decide)).trans ((gI_sI_nf (by decide)).trans ((gI_sI_nf (by decide)).trans ((gI_sI_nf (by decide)).trans ((gI_sI_nf (by decide)).trans (hm0')))))))))))
      ((gI_sI_nf (by decide)).trans ((gI_sI_nf (by decide)).trans ((gI_sI_nf (by decide)).trans ((gI_sI_nf (by decide)).trans ((gI_sI_nf (by decide)).trans ((gI_sI_nf (by decide)).trans ((gI_sI_nf (by decide)).trans ((gI_sI_nf (by decide)).trans ((gI_sI_nf (by decide)).trans ((gI_sI_nf (by decide)).trans (ht0))))))))))) (by unfold bt; decide) (by unfold bt; decide) (by unfold bt; decide) (by unfold bt; decide) (by unfold bt; decide) (by unfold bt; decide) (by unfold bt; decide) (by unfold bt; decide) (by unfold bt; decide) (by unfold bt; decide) ⟨fun h => h.elim, fun h => absurd h tyMx_0⟩ rfl)

theorem xj_I8 {d : Nat} {S : zS} (hF : zFin true S) (hd : 2 ≤ d) {n v : Nat} (hn0 : 1639 ≤ n) (hn : n < gN S) (htn : ztyp S n = 15)  (hm0 : gI S 156 n = 0) (ht0 : gI S 146 n = 0) {post : Outcome × zS → Prop}
    (h1 : ∀ t S', zFin true S' → tyN 8 v [] = some t → xJd S n S' → xTy S' n t → post (.returned none, S')) : zCall d 326 [.ref n] S post := by
  have hm0' : gI S 156 n = zbo False := hm0.trans (zbo_neg id).symm
  refine ij_ hF (by omega) n  hn0 hn htn  hm0' ht0 ?_
  have hq : tyB 8 v [] = some ((0 : Int32), (286 : Int32)) := tyB_L (by omega)
  exact h1 _ _ hF (tyN_some hq) (xJd_s (xJd_s (xJd_s (xJd_s (xJd_s (xJd_s (xJd_s (xJd_s (xJd_s (xJd_s xJd.rf (by decide)) (by decide)) (by decide)) (by decide)) (by decide)) (by decide)) (by decide)) (by decide)) (by decide)) (by decide)) (xTy_mk (b := 0) (f := 286) (MX := tyMx 8 v []) (((gI_sI_nf (by decide)).trans ((gI_sI_nf (by decide)).trans ((gI_sI_nf (by decide)).trans ((gI_sI_nf (by decide)).trans ((gI_sI_nf (by decide)).trans ((gI_sI_nf (by decide)).trans ((gI_sI_nf (by decide)).trans ((gI_sI_nf (by decide)).trans ((gI_sI_nf (by decide)).trans (gI_sI_at)))))))))).trans (show (1 : Int32) = 0 + 1 from by decide))
      (((gI_sI_nf (by decide)).trans ((gI_sI_nf (by decide)).trans ((gI_sI_nf (by decide)).trans ((gI_sI_nf (by decide)).trans ((gI_sI_nf (by decide)).trans ((gI_sI_nf (by decide)).trans ((gI_sI_nf (by decide)).trans ((gI_sI_nf (by decide)).trans (gI_sI_at))))))))).trans (zbo_neg id).symm)
      (((gI_sI_nf (by decide)).trans ((gI_sI_nf (by decide)).trans ((gI_sI_nf (by decide)).trans ((gI_sI_nf (by decide)).trans ((gI_sI_nf (by decide)).trans ((gI_sI_nf (by decide)).trans ((gI_sI_nf (by decide)).trans (gI_sI_at)))))))).trans (zbo_pos trivial).symm)
      (((gI_sI_nf (by decide)).trans ((gI_sI_nf (by decide)).trans ((gI_sI_nf (by decide)).trans ((gI_sI_nf (by decide)).trans ((gI_sI_nf (by decide)).trans ((gI_sI_nf (by decide)).trans (gI_sI_at))))))).trans (zbo_pos trivial).symm)
      (((gI_sI_nf (by decide)).trans ((gI_sI_nf (by decide)).trans ((gI_sI_nf (by decide)).trans ((gI_sI_nf (by decide)).trans ((gI_sI_nf (by decide)).trans (gI_sI_at)))))).trans (zbo_pos trivial).symm)
      (((gI_sI_nf (by decide)).trans ((gI_sI_nf (by decide)).trans ((gI_sI_nf (by decide)).trans ((gI_sI_nf (by decide)).trans (gI_sI_at))))).trans (zbo_pos trivial).symm)
      (((gI_sI_nf (by decide)).trans ((gI_sI_nf (by decide)).trans ((gI_sI_nf (by decide)).trans (gI_sI_at)))).trans (zbo_neg id).symm)
      (((gI_sI_nf (by decide)).trans ((gI_sI_nf (by decide)).trans (gI_sI_at))).trans (zbo_neg id).symm)
      (((gI_sI_nf (by decide)).trans (gI_sI_at)).trans (zbo_neg id).symm)
      ((gI_sI_at).trans (zbo_pos trivial).symm)
      ((gI_sI_nf (by decide)).trans ((gI_sI_nf (by decide)).trans ((gI_sI_nf (by decide)).trans ((gI_sI_nf (by decide)).trans ((gI_sI_nf (by decide)).trans ((gI_sI_nf (by decide)).trans ((gI_sI_nf (by decide)).trans ((gI_sI_nf (by decide)).trans ((gI_sI_nf (by decide)).trans ((gI_sI_nf (by decide)).trans (hm0')))))))))))
      ((gI_sI_nf (by decide)).trans ((gI_sI_nf (by decide)).trans ((gI_sI_nf (by decide)).trans ((gI_sI_nf (by decide)).trans ((gI_sI_nf (by decide)).trans ((gI_sI_nf (by decide)).trans ((gI_sI_nf (by decide)).trans ((gI_sI_nf (by decide)).trans ((gI_sI_nf (by decide)).trans ((gI_sI_nf (by decide)).trans (ht0))))))))))) (by unfold bt; decide) (by unfold bt; decide) (by unfold bt; decide) (by unfold bt; decide) (by unfold bt; decide) (by unfold bt; decide) (by unfold bt; decide) (by unfold bt; decide) (by unfold bt; decide) (by unfold bt; decide) ⟨fun h => h.elim, fun h => absurd h tyMx_0⟩ rfl)

theorem xj_I9 {d : Nat} {S : zS} (hF : zFin true S) (hd : 2 ≤ d) {n v : Nat} (hn0 : 1639 ≤ n) (hn : n < gN S) (htn : ztyp S n = 15)  (hm0 : gI S 156 n = 0) (ht0 : gI S 146 n = 0) {post : Outcome × zS → Prop}
    (h1 : ∀ t S', zFin true S' → tyN 9 v [] = some t → xJd S n S' → xTy S' n t → post (.returned none, S')) : zCall d 326 [.ref n] S post := by
  have hm0' : gI S 156 n = zbo False := hm0.trans (zbo_neg id).symm
  refine ij_ hF (by omega) n  hn0 hn htn  hm0' ht0 ?_
  have hq : tyB 9 v [] = some ((0 : Int32), (286 : Int32)) := tyB_L (by omega)
  exact h1 _ _ hF (tyN_some hq) (xJd_s (xJd_s (xJd_s (xJd_s (xJd_s (xJd_s (xJd_s (xJd_s (xJd_s (xJd_s xJd.rf (by decide)) (by decide)) (by decide)) (by decide)) (by decide)) (by decide)) (by decide)) (by decide)) (by decide)) (by decide)) (xTy_mk (b := 0) (f := 286) (MX := tyMx 9 v []) (((gI_sI_nf (by decide)).trans ((gI_sI_nf (by decide)).trans ((gI_sI_nf (by decide)).trans ((gI_sI_nf (by decide)).trans ((gI_sI_nf (by decide)).trans ((gI_sI_nf (by decide)).trans ((gI_sI_nf (by decide)).trans ((gI_sI_nf (by decide)).trans ((gI_sI_nf (by decide)).trans (gI_sI_at)))))))))).trans (show (1 : Int32) = 0 + 1 from by decide))
      (((gI_sI_nf (by decide)).trans ((gI_sI_nf (by decide)).trans ((gI_sI_nf (by decide)).trans ((gI_sI_nf (by decide)).trans ((gI_sI_nf (by decide)).trans ((gI_sI_nf (by decide)).trans ((gI_sI_nf (by decide)).trans ((gI_sI_nf (by decide)).trans (gI_sI_at))))))))).trans (zbo_neg id).symm)
      (((gI_sI_nf (by decide)).trans ((gI_sI_nf (by decide)).trans ((gI_sI_nf (by decide)).trans ((gI_sI_nf (by decide)).trans ((gI_sI_nf (by decide)).trans ((gI_sI_nf (by decide)).trans ((gI_sI_nf (by decide)).trans (gI_sI_at)))))))).trans (zbo_pos trivial).symm)
      (((gI_sI_nf (by decide)).trans ((gI_sI_nf (by decide)).trans ((gI_sI_nf (by decide)).trans ((gI_sI_nf (by decide)).trans ((gI_sI_nf (by decide)).trans ((gI_sI_nf (by decide)).trans (gI_sI_at))))))).trans (zbo_pos trivial).symm)
      (((gI_sI_nf (by decide)).trans ((gI_sI_nf (by decide)).trans ((gI_sI_nf (by decide)).trans ((gI_sI_nf (by decide)).trans ((gI_sI_nf (by decide)).trans (gI_sI_at)))))).trans (zbo_pos trivial).symm)
      (((gI_sI_nf (by decide)).trans ((gI_sI_nf (by decide)).trans ((gI_sI_nf (by decide)).trans ((gI_sI_nf (by decide)).trans (gI_sI_at))))).trans (zbo_pos trivial).symm)
      (((gI_sI_nf (by decide)).trans ((gI_sI_nf (by decide)).trans ((gI_sI_nf (by decide)).trans (gI_sI_at)))).trans (zbo_neg id).symm)
      (((gI_sI_nf (by decide)).trans ((gI_sI_nf (by decide)).trans (gI_sI_at))).trans (zbo_neg id).symm)
      (((gI_sI_nf (by decide)).trans (gI_sI_at)).trans (zbo_neg id).symm)
      ((gI_sI_at).trans (zbo_pos trivial).symm)
      ((gI_sI_nf (by decide)).trans ((gI_sI_nf (by decide)).trans ((gI_sI_nf (by decide)).trans ((gI_sI_nf (by decide)).trans ((gI_sI_nf (by decide)).trans ((gI_sI_nf (by decide)).trans ((gI_sI_nf (by decide)).trans ((gI_sI_nf (by decide)).trans ((gI_sI_nf (by decide)).trans ((gI_sI_nf (by decide)).trans (hm0')))))))))))
      ((gI_sI_nf (by decide)).trans ((gI_sI_nf (by decide)).trans ((gI_sI_nf (by decide)).trans ((gI_sI_nf (by decide)).trans ((gI_sI_nf (by decide)).trans ((gI_sI_nf (by decide)).trans ((gI_sI_nf (by decide)).trans ((gI_sI_nf (by decide)).trans ((gI_sI_nf (by decide)).trans ((gI_sI_nf (by decide)).trans (ht0))))))))))) (by unfold bt; decide) (by unfold bt; decide) (by unfold bt; decide) (by unfold bt; decide) (by unfold bt; decide) (by unfold bt; decide) (by unfold bt; decide) (by unfold bt; decide) (by unfold bt; decide) (by unfold bt; decide) ⟨fun h => h.elim, fun h => absurd h tyMx_0⟩ rfl)

theorem xj_U {d : Nat} {S : zS} (hF : zFin true S) (hd : 2 ≤ d) {n v : Nat} (hn0 : 1639 ≤ n) (hn : n < gN S) (htn : ztyp S n = 17)  (hm0 : gI S 156 n = 0) (ht0 : gI S 146 n = 0) {post : Outcome × zS → Prop}
    (h1 : ∀ t S', zFin true S' → tyN 18 v [] = some t → xJd S n S' → xTy S' n t → post (.returned none, S')) : zCall d 340 [.ref n] S post := by
  have hm0' : gI S 156 n = zbo False := hm0.trans (zbo_neg id).symm
  refine uj_ hF (by omega) n  hn0 hn htn  hm0' ht0 ?_
  have hq : tyB 18 v [] = some ((0 : Int32), (444 : Int32)) := tyB_L (by omega)
  exact h1 _ _ hF (tyN_some hq) (xJd_s (xJd_s (xJd_s (xJd_s (xJd_s (xJd_s (xJd_s (xJd_s (xJd_s (xJd_s xJd.rf (by decide)) (by decide)) (by decide)) (by decide)) (by decide)) (by decide)) (by decide)) (by decide)) (by decide)) (by decide)) (xTy_mk (b := 0) (f := 444) (MX := tyMx 18 v []) (((gI_sI_nf (by decide)).trans ((gI_sI_nf (by decide)).trans ((gI_sI_nf (by decide)).trans ((gI_sI_nf (by decide)).trans ((gI_sI_nf (by decide)).trans ((gI_sI_nf (by decide)).trans ((gI_sI_nf (by decide)).trans ((gI_sI_nf (by decide)).trans ((gI_sI_nf (by decide)).trans (gI_sI_at)))))))))).trans (show (1 : Int32) = 0 + 1 from by decide))
      (((gI_sI_nf (by decide)).trans ((gI_sI_nf (by decide)).trans ((gI_sI_nf (by decide)).trans ((gI_sI_nf (by decide)).trans ((gI_sI_nf (by decide)).trans ((gI_sI_nf (by decide)).trans ((gI_sI_nf (by decide)).trans ((gI_sI_nf (by decide)).trans (gI_sI_at))))))))).trans (zbo_neg id).symm)
      (((gI_sI_nf (by decide)).trans ((gI_sI_nf (by decide)).trans ((gI_sI_nf (by decide)).trans ((gI_sI_nf (by decide)).trans ((gI_sI_nf (by decide)).trans ((gI_sI_nf (by decide)).trans ((gI_sI_nf (by decide)).trans (gI_sI_at)))))))).trans (zbo_neg id).symm)
      (((gI_sI_nf (by decide)).trans ((gI_sI_nf (by decide)).trans ((gI_sI_nf (by decide)).trans ((gI_sI_nf (by decide)).trans ((gI_sI_nf (by decide)).trans ((gI_sI_nf (by decide)).trans (gI_sI_at))))))).trans (zbo_pos trivial).symm)
      (((gI_sI_nf (by decide)).trans ((gI_sI_nf (by decide)).trans ((gI_sI_nf (by decide)).trans ((gI_sI_nf (by decide)).trans ((gI_sI_nf (by decide)).trans (gI_sI_at)))))).trans (zbo_pos trivial).symm)
      (((gI_sI_nf (by decide)).trans ((gI_sI_nf (by decide)).trans ((gI_sI_nf (by decide)).trans ((gI_sI_nf (by decide)).trans (gI_sI_at))))).trans (zbo_pos trivial).symm)
      (((gI_sI_nf (by decide)).trans ((gI_sI_nf (by decide)).trans ((gI_sI_nf (by decide)).trans (gI_sI_at)))).trans (zbo_pos trivial).symm)
      (((gI_sI_nf (by decide)).trans ((gI_sI_nf (by decide)).trans (gI_sI_at))).trans (zbo_neg id).symm)
      (((gI_sI_nf (by decide)).trans (gI_sI_at)).trans (zbo_pos trivial).symm)
      ((gI_sI_at).trans (zbo_pos trivial).symm)
      ((gI_sI_nf (by decide)).trans ((gI_sI_nf (by decide)).trans ((gI_sI_nf (by decide)).trans ((gI_sI_nf (by decide)).trans ((gI_sI_nf (by decide)).trans ((gI_sI_nf (by decide)).trans ((gI_sI_nf (by decide)).trans ((gI_sI_nf (by decide)).trans ((gI_sI_nf (by decide)).trans ((gI_sI_nf (by decide)).trans (hm0')))))))))))
      ((gI_sI_nf (by decide)).trans ((gI_sI_nf (by decide)).trans ((gI_sI_nf (by decide)).trans ((gI_sI_nf (by decide)).trans ((gI_sI_nf (by decide)).trans ((gI_sI_nf (by decide)).trans ((gI_sI_nf (by decide)).trans ((gI_sI_nf (by decide)).trans ((gI_sI_nf (by decide)).trans ((gI_sI_nf (by decide)).trans (ht0))))))))))) (by unfold bt; decide) (by unfold bt; decide) (by unfold bt; decide) (by unfold bt; decide) (by unfold bt; decide) (by unfold bt; decide) (by unfold bt; decide) (by unfold bt; decide) (by unfold bt; decide) (by unfold bt; decide) ⟨fun h => h.elim, fun h => absurd h tyMx_0⟩ rfl)


