set_option maxRecDepth 100000
/-! ===== the twin puts a wrapper around ===== -/
theorem wr0 {d : Nat} {S : zS} (hF : zFin true S) (hd : 1 ≤ d) (w x p : Nat)  (hx : x < 3000) (hp : p ≤ 300) (hw : w < 100) {post : Outcome × zS → Prop} (h1 : zCall (d - 1) 133 [.ref 1592, .int (Int32.ofNat w), .int 0, .int (Int32.ofNat p)] S (zAf d 153 10 [.ref 1592, .int (Int32.ofNat w), .int (Int32.ofNat x), .int (Int32.ofNat p), .retAddr 0, .retAddr 0] [] post)) : zCall d 153 [.ref 1592, .int (Int32.ofNat w), .int (Int32.ofNat x), .int (Int32.ofNat p)] S post := by
  have ht : ztab 153 = ztb153 := rfl
  show zEv d 153 0 [.ref 1592, .int (Int32.ofNat w), .int (Int32.ofNat x), .int (Int32.ofNat p), .retAddr 0, .retAddr 0] [] S post
  refine zv_c1 ht rfl rfl (zv_c1 ht rfl rfl ?_)
  refine zv_br ht rfl rfl rfl (fun b1 => (show False from by have hq := b1; have hz : 100 ≤ w := (zi_leE (a := 100) (b := w) rfl rfl (by omega) (by omega)).mp hq; omega).elim) (fun b1 => ?_)
  refine zv_c1 ht rfl rfl (zv_c1 ht rfl rfl (zv_c1 ht rfl rfl (zv_c1 ht rfl rfl ?_)))
  refine zv_cl ht rfl rfl rfl rfl (by omega) (Nat.le_of_ble_eq_true rfl) h1

theorem wr13 {d : Nat} {S : zS} (hF : zFin true S) (hd : 1 ≤ d) (x n : Nat)  (hx : x < 3000) (hn : n < 3000) {post : Outcome × zS → Prop} (h1 : zCall (d - 1) 154 [.ref 1592, .int (Int32.ofNat n), .int (Int32.ofNat x)] S (zAf d 153 19 [.ref 1592, .retAddr 0, .int (Int32.ofNat x), .retAddr 0, .int (Int32.ofNat n), .retAddr 0] [] post)) : zEv d 153 13 [.ref 1592, .retAddr 0, .int (Int32.ofNat x), .retAddr 0, .retAddr 0, .retAddr 0] [.int (Int32.ofNat n)] S post := by
  have ht : ztab 153 = ztb153 := rfl
  refine zv_c2 (L' := [.ref 1592, .retAddr 0, .int (Int32.ofNat x), .retAddr 0, .int (Int32.ofNat n), .retAddr 0]) ht rfl rfl ?_
  refine zv_c1 ht rfl rfl (zv_c1 ht rfl rfl (zv_c1 ht rfl rfl ?_))
  refine zv_cl ht rfl rfl rfl rfl (by omega) (Nat.le_of_ble_eq_true rfl) h1

theorem wr22 {d : Nat} {S : zS} (hF : zFin true S) (hd : 1 ≤ d) (n : Nat)  (hn : n < 3000) {post : Outcome × zS → Prop} (h1 : zCall (d - 1) 134 [.ref 1592, .int (Int32.ofNat n)] S (zAf d 153 25 [.ref 1592, .retAddr 0, .retAddr 0, .retAddr 0, .int (Int32.ofNat n), .retAddr 0] [] post)) : zEv d 153 22 [.ref 1592, .retAddr 0, .retAddr 0, .retAddr 0, .int (Int32.ofNat n), .retAddr 0] [] S post := by
  have ht : ztab 153 = ztb153 := rfl
  refine zv_c1 ht rfl rfl (zv_c1 ht rfl rfl ?_)
  refine zv_cl ht rfl rfl rfl rfl (by omega) (Nat.le_of_ble_eq_true rfl) h1

theorem wr28 {d : Nat} {S : zS} (hF : zFin true S) (y : Int32) {post : Outcome × zS → Prop} (h1 : post (.returned (some (.int y)), S)) : zEv d 153 28 [.retAddr 0, .retAddr 0, .retAddr 0, .retAddr 0, .retAddr 0, .retAddr 0] [.int y] S post := by
  have ht : ztab 153 = ztb153 := rfl
  exact zv_rt ht rfl rfl rfl rfl h1

theorem wr115 {d : Nat} {S : zS} (hF : zFin true S) (y : Int32) {post : Outcome × zS → Prop} (h1 : post (.returned (some (.int y)), S)) : zEv d 153 115 [.retAddr 0, .retAddr 0, .retAddr 0, .retAddr 0, .retAddr 0, .retAddr 0] [.int y] S post := by
  have ht : ztab 153 = ztb153 := rfl
  exact zv_rt ht rfl rfl rfl rfl h1

theorem wr47 {d : Nat} {S : zS} (hF : zFin true S) (hd : 1 ≤ d) (w x p o : Nat)  (hx : x < 3000) (hp : p ≤ 300) (ho : o < 3000) {post : Outcome × zS → Prop} (h1 : zCall (d - 1) 134 [.ref 1592, .int (Int32.ofNat o)] S (zAf d 153 47 [.ref 1592, .int (Int32.ofNat w), .int (Int32.ofNat x), .int (Int32.ofNat p), .retAddr 0, .retAddr 0] [] post)) : zEv d 153 47 [.ref 1592, .int (Int32.ofNat w), .int (Int32.ofNat x), .int (Int32.ofNat p), .retAddr 0, .retAddr 0] [.int (Int32.ofNat o), .ref 1592] S post := by
  have ht : ztab 153 = ztb153 := rfl
  refine zv_cl ht rfl rfl rfl rfl (by omega) (Nat.le_of_ble_eq_true rfl) h1

theorem wr109 {d : Nat} {S : zS} (hF : zFin true S) (hd : 1 ≤ d) (n : Nat)  (hn : n < 3000) {post : Outcome × zS → Prop} (h1 : zCall (d - 1) 134 [.ref 1592, .int (Int32.ofNat n)] S (zAf d 153 112 [.ref 1592, .retAddr 0, .retAddr 0, .retAddr 0, .retAddr 0, .int (Int32.ofNat n)] [] post)) : zEv d 153 109 [.ref 1592, .retAddr 0, .retAddr 0, .retAddr 0, .retAddr 0, .int (Int32.ofNat n)] [] S post := by
  have ht : ztab 153 = ztb153 := rfl
  refine zv_c1 ht rfl rfl (zv_c1 ht rfl rfl ?_)
  refine zv_cl ht rfl rfl rfl rfl (by omega) (Nat.le_of_ble_eq_true rfl) h1

theorem wr0_103 {d : Nat} {S : zS} (hF : zFin true S) (hd : 1 ≤ d) (x p : Nat)  (hx : x < 3000) (hp : p ≤ 300) {post : Outcome × zS → Prop} (h1 : zCall (d - 1) 133 [.ref 1592, .int 1, .int 0, .int (Int32.ofNat p)] S (zAf d 153 44 [.ref 1592, .int 103, .int (Int32.ofNat x), .int (Int32.ofNat p), .retAddr 0, .retAddr 0] [.ref 1592] post)) : zCall d 153 [.ref 1592, .int 103, .int (Int32.ofNat x), .int (Int32.ofNat p)] S post := by
  have ht : ztab 153 = ztb153 := rfl
  show zEv d 153 0 [.ref 1592, .int 103, .int (Int32.ofNat x), .int (Int32.ofNat p), .retAddr 0, .retAddr 0] [] S post
  refine zv_c1 ht rfl rfl (zv_c1 ht rfl rfl ?_)
  refine zv_br ht rfl rfl rfl (fun _ => ?_) (fun h => absurd (by decide) h)
  refine zv_c1 ht rfl rfl (zv_c1 ht rfl rfl (zv_c1 ht rfl rfl (zv_c1 ht rfl rfl ?_)))
  refine zv_br ht rfl rfl rfl (fun h => absurd h (by decide)) (fun _ => ?_)
  refine zv_c1 ht rfl rfl (zv_c1 ht rfl rfl (zv_c1 ht rfl rfl (zv_c1 ht rfl rfl ?_)))
  refine zv_cl ht rfl rfl rfl rfl (by omega) (Nat.le_of_ble_eq_true rfl) h1

theorem wr50_103 {d : Nat} {S : zS} (hF : zFin true S) (hd : 1 ≤ d) (x p o : Nat)  (hx : x < 3000) (hp : p ≤ 300) (ho : o < 3000) {post : Outcome × zS → Prop} (h1 : zCall (d - 1) 133 [.ref 1592, .int 11, .int 0, .int (Int32.ofNat p)] S (zAf d 153 68 [.ref 1592, .int 103, .int (Int32.ofNat x), .int (Int32.ofNat p), .int (Int32.ofNat o), .retAddr 0] [] post)) : zEv d 153 50 [.ref 1592, .int 103, .int (Int32.ofNat x), .int (Int32.ofNat p), .retAddr 0, .retAddr 0] [.int (Int32.ofNat o)] S post := by
  have ht : ztab 153 = ztb153 := rfl
  refine zv_c2 (L' := [.ref 1592, .int 103, .int (Int32.ofNat x), .int (Int32.ofNat p), .int (Int32.ofNat o), .retAddr 0]) ht rfl rfl ?_
  refine zv_c1 ht rfl rfl (zv_c1 ht rfl rfl (zv_c1 ht rfl rfl ?_))
  refine zv_br ht rfl rfl rfl (fun h => absurd h (by decide)) (fun _ => ?_)
  refine zv_c1 ht rfl rfl (zv_c1 ht rfl rfl (zv_c1 ht rfl rfl (zv_c1 ht rfl rfl ?_)))
  refine zv_cl ht rfl rfl rfl rfl (by omega) (Nat.le_of_ble_eq_true rfl) h1

theorem wr71_103 {d : Nat} {S : zS} (hF : zFin true S) (hd : 1 ≤ d) (x o n : Nat)  (hx : x < 3000) (ho : o < 3000) (hn : n < 3000) {post : Outcome × zS → Prop} (h1 : zCall (d - 1) 154 [.ref 1592, .int (Int32.ofNat n), .int (Int32.ofNat x)] S (zAf d 153 88 [.ref 1592, .int 103, .int (Int32.ofNat x), .retAddr 0, .int (Int32.ofNat o), .int (Int32.ofNat n)] [] post)) : zEv d 153 71 [.ref 1592, .int 103, .int (Int32.ofNat x), .retAddr 0, .int (Int32.ofNat o), .retAddr 0] [.int (Int32.ofNat n)] S post := by
  have ht : ztab 153 = ztb153 := rfl
  refine zv_c2 (L' := [.ref 1592, .int 103, .int (Int32.ofNat x), .retAddr 0, .int (Int32.ofNat o), .int (Int32.ofNat n)]) ht rfl rfl ?_
  refine zv_c1 ht rfl rfl (zv_c1 ht rfl rfl (zv_c1 ht rfl rfl (zv_c1 ht rfl rfl ?_)))
  refine zv_br ht rfl rfl rfl (fun _ => ?_) (fun h => absurd (by decide) h)
  refine zv_c1 ht rfl rfl ?_
  refine zv_cl ht rfl rfl rfl rfl (by omega) (Nat.le_of_ble_eq_true rfl) h1

theorem wr91_103 {d : Nat} {S : zS} (hF : zFin true S) (hd : 1 ≤ d) (x o n : Nat)  (hx : x < 3000) (ho : o < 3000) (hn : n < 3000) {post : Outcome × zS → Prop} (h1 : zCall (d - 1) 154 [.ref 1592, .int (Int32.ofNat n), .int (Int32.ofNat o)] S (zAf d 153 106 [.ref 1592, .int 103, .int (Int32.ofNat x), .retAddr 0, .int (Int32.ofNat o), .int (Int32.ofNat n)] [] post)) : zEv d 153 91 [.ref 1592, .int 103, .int (Int32.ofNat x), .retAddr 0, .int (Int32.ofNat o), .int (Int32.ofNat n)] [] S post := by
  have ht : ztab 153 = ztb153 := rfl
  refine zv_c1 ht rfl rfl (zv_c1 ht rfl rfl (zv_c1 ht rfl rfl (zv_c1 ht rfl rfl ?_)))
  refine zv_br ht rfl rfl rfl (fun _ => ?_) (fun h => absurd (by decide) h)
  refine zv_c1 ht rfl rfl ?_
  refine zv_cl ht rfl rfl rfl rfl (by omega) (Nat.le_of_ble_eq_true rfl) h1

theorem wr0_104 {d : Nat} {S : zS} (hF : zFin true S) (hd : 1 ≤ d) (x p : Nat)  (hx : x < 3000) (hp : p ≤ 300) {post : Outcome × zS → Prop} (h1 : zCall (d - 1) 133 [.ref 1592, .int 0, .int 0, .int (Int32.ofNat p)] S (zAf d 153 44 [.ref 1592, .int 104, .int (Int32.ofNat x), .int (Int32.ofNat p), .retAddr 0, .retAddr 0] [.ref 1592] post)) : zCall d 153 [.ref 1592, .int 104, .int (Int32.ofNat x), .int (Int32.ofNat p)] S post := by
  have ht : ztab 153 = ztb153 := rfl
  show zEv d 153 0 [.ref 1592, .int 104, .int (Int32.ofNat x), .int (Int32.ofNat p), .retAddr 0, .retAddr 0] [] S post
  refine zv_c1 ht rfl rfl (zv_c1 ht rfl rfl ?_)
  refine zv_br ht rfl rfl rfl (fun _ => ?_) (fun h => absurd (by decide) h)
  refine zv_c1 ht rfl rfl (zv_c1 ht rfl rfl (zv_c1 ht rfl rfl (zv_c1 ht rfl rfl ?_)))
  refine zv_br ht rfl rfl rfl (fun _ => ?_) (fun h => absurd (by decide) h)
  refine zv_c1 ht rfl rfl (zv_c1 ht rfl rfl (zv_c1 ht rfl rfl ?_))
  refine zv_cl ht rfl rfl rfl rfl (by omega) (Nat.le_of_ble_eq_true rfl) h1

theorem wr50_104 {d : Nat} {S : zS} (hF : zFin true S) (hd : 1 ≤ d) (x p o : Nat)  (hx : x < 3000) (hp : p ≤ 300) (ho : o < 3000) {post : Outcome × zS → Prop} (h1 : zCall (d - 1) 133 [.ref 1592, .int 16, .int 0, .int (Int32.ofNat p)] S (zAf d 153 68 [.ref 1592, .int 104, .int (Int32.ofNat x), .int (Int32.ofNat p), .int (Int32.ofNat o), .retAddr 0] [] post)) : zEv d 153 50 [.ref 1592, .int 104, .int (Int32.ofNat x), .int (Int32.ofNat p), .retAddr 0, .retAddr 0] [.int (Int32.ofNat o)] S post := by
  have ht : ztab 153 = ztb153 := rfl
  refine zv_c2 (L' := [.ref 1592, .int 104, .int (Int32.ofNat x), .int (Int32.ofNat p), .int (Int32.ofNat o), .retAddr 0]) ht rfl rfl ?_
  refine zv_c1 ht rfl rfl (zv_c1 ht rfl rfl (zv_c1 ht rfl rfl ?_))
  refine zv_br ht rfl rfl rfl (fun _ => ?_) (fun h => absurd (by decide) h)
  refine zv_c1 ht rfl rfl (zv_c1 ht rfl rfl (zv_c1 ht rfl rfl ?_))
  refine zv_cl ht rfl rfl rfl rfl (by omega) (Nat.le_of_ble_eq_true rfl) h1

theorem wr71_104 {d : Nat} {S : zS} (hF : zFin true S) (hd : 1 ≤ d) (x o n : Nat)  (hx : x < 3000) (ho : o < 3000) (hn : n < 3000) {post : Outcome × zS → Prop} (h1 : zCall (d - 1) 154 [.ref 1592, .int (Int32.ofNat n), .int (Int32.ofNat o)] S (zAf d 153 88 [.ref 1592, .int 104, .int (Int32.ofNat x), .retAddr 0, .int (Int32.ofNat o), .int (Int32.ofNat n)] [] post)) : zEv d 153 71 [.ref 1592, .int 104, .int (Int32.ofNat x), .retAddr 0, .int (Int32.ofNat o), .retAddr 0] [.int (Int32.ofNat n)] S post := by
  have ht : ztab 153 = ztb153 := rfl
  refine zv_c2 (L' := [.ref 1592, .int 104, .int (Int32.ofNat x), .retAddr 0, .int (Int32.ofNat o), .int (Int32.ofNat n)]) ht rfl rfl ?_
  refine zv_c1 ht rfl rfl (zv_c1 ht rfl rfl (zv_c1 ht rfl rfl (zv_c1 ht rfl rfl ?_)))
  refine zv_br ht rfl rfl rfl (fun h => absurd h (by decide)) (fun _ => ?_)
  refine zv_c1 ht rfl rfl (zv_c1 ht rfl rfl ?_)
  refine zv_cl ht rfl rfl rfl rfl (by omega) (Nat.le_of_ble_eq_true rfl) h1

theorem wr91_104 {d : Nat} {S : zS} (hF : zFin true S) (hd : 1 ≤ d) (x o n : Nat)  (hx : x < 3000) (ho : o < 3000) (hn : n < 3000) {post : Outcome × zS → Prop} (h1 : zCall (d - 1) 154 [.ref 1592, .int (Int32.ofNat n), .int (Int32.ofNat x)] S (zAf d 153 106 [.ref 1592, .int 104, .int (Int32.ofNat x), .retAddr 0, .int (Int32.ofNat o), .int (Int32.ofNat n)] [] post)) : zEv d 153 91 [.ref 1592, .int 104, .int (Int32.ofNat x), .retAddr 0, .int (Int32.ofNat o), .int (Int32.ofNat n)] [] S post := by
  have ht : ztab 153 = ztb153 := rfl
  refine zv_c1 ht rfl rfl (zv_c1 ht rfl rfl (zv_c1 ht rfl rfl (zv_c1 ht rfl rfl ?_)))
  refine zv_br ht rfl rfl rfl (fun h => absurd h (by decide)) (fun _ => ?_)
  refine zv_c1 ht rfl rfl (zv_c1 ht rfl rfl ?_)
  refine zv_cl ht rfl rfl rfl rfl (by omega) (Nat.le_of_ble_eq_true rfl) h1

theorem wr0_105 {d : Nat} {S : zS} (hF : zFin true S) (hd : 1 ≤ d) (x p : Nat)  (hx : x < 3000) (hp : p ≤ 300) {post : Outcome × zS → Prop} (h1 : zCall (d - 1) 133 [.ref 1592, .int 0, .int 0, .int (Int32.ofNat p)] S (zAf d 153 44 [.ref 1592, .int 105, .int (Int32.ofNat x), .int (Int32.ofNat p), .retAddr 0, .retAddr 0] [.ref 1592] post)) : zCall d 153 [.ref 1592, .int 105, .int (Int32.ofNat x), .int (Int32.ofNat p)] S post := by
  have ht : ztab 153 = ztb153 := rfl
  show zEv d 153 0 [.ref 1592, .int 105, .int (Int32.ofNat x), .int (Int32.ofNat p), .retAddr 0, .retAddr 0] [] S post
  refine zv_c1 ht rfl rfl (zv_c1 ht rfl rfl ?_)
  refine zv_br ht rfl rfl rfl (fun _ => ?_) (fun h => absurd (by decide) h)
  refine zv_c1 ht rfl rfl (zv_c1 ht rfl rfl (zv_c1 ht rfl rfl (zv_c1 ht rfl rfl ?_)))
  refine zv_br ht rfl rfl rfl (fun _ => ?_) (fun h => absurd (by decide) h)
  refine zv_c1 ht rfl rfl (zv_c1 ht rfl rfl (zv_c1 ht rfl rfl ?_))
  refine zv_cl ht rfl rfl rfl rfl (by omega) (Nat.le_of_ble_eq_true rfl) h1

theorem wr50_105 {d : Nat} {S : zS} (hF : zFin true S) (hd : 1 ≤ d) (x p o : Nat)  (hx : x < 3000) (hp : p ≤ 300) (ho : o < 3000) {post : Outcome × zS → Prop} (h1 : zCall (d - 1) 133 [.ref 1592, .int 16, .int 0, .int (Int32.ofNat p)] S (zAf d 153 68 [.ref 1592, .int 105, .int (Int32.ofNat x), .int (Int32.ofNat p), .int (Int32.ofNat o), .retAddr 0] [] post)) : zEv d 153 50 [.ref 1592, .int 105, .int (Int32.ofNat x), .int (Int32.ofNat p), .retAddr 0, .retAddr 0] [.int (Int32.ofNat o)] S post := by
  have ht : ztab 153 = ztb153 := rfl
  refine zv_c2 (L' := [.ref 1592, .int 105, .int (Int32.ofNat x), .int (Int32.ofNat p), .int (Int32.ofNat o), .retAddr 0]) ht rfl rfl ?_
  refine zv_c1 ht rfl rfl (zv_c1 ht rfl rfl (zv_c1 ht rfl rfl ?_))
  refine zv_br ht rfl rfl rfl (fun _ => ?_) (fun h => absurd (by decide) h)
  refine zv_c1 ht rfl rfl (zv_c1 ht rfl rfl (zv_c1 ht rfl rfl ?_))
  refine zv_cl ht rfl rfl rfl rfl (by omega) (Nat.le_of_ble_eq_true rfl) h1

theorem wr71_105 {d : Nat} {S : zS} (hF : zFin true S) (hd : 1 ≤ d) (x o n : Nat)  (hx : x < 3000) (ho : o < 3000) (hn : n < 3000) {post : Outcome × zS → Prop} (h1 : zCall (d - 1) 154 [.ref 1592, .int (Int32.ofNat n), .int (Int32.ofNat x)] S (zAf d 153 88 [.ref 1592, .int 105, .int (Int32.ofNat x), .retAddr 0, .int (Int32.ofNat o), .int (Int32.ofNat n)] [] post)) : zEv d 153 71 [.ref 1592, .int 105, .int (Int32.ofNat x), .retAddr 0, .int (Int32.ofNat o), .retAddr 0] [.int (Int32.ofNat n)] S post := by
  have ht : ztab 153 = ztb153 := rfl
  refine zv_c2 (L' := [.ref 1592, .int 105, .int (Int32.ofNat x), .retAddr 0, .int (Int32.ofNat o), .int (Int32.ofNat n)]) ht rfl rfl ?_
  refine zv_c1 ht rfl rfl (zv_c1 ht rfl rfl (zv_c1 ht rfl rfl (zv_c1 ht rfl rfl ?_)))
  refine zv_br ht rfl rfl rfl (fun _ => ?_) (fun h => absurd (by decide) h)
  refine zv_c1 ht rfl rfl ?_
  refine zv_cl ht rfl rfl rfl rfl (by omega) (Nat.le_of_ble_eq_true rfl) h1

theorem wr91_105 {d : Nat} {S : zS} (hF : zFin true S) (hd : 1 ≤ d) (x o n : Nat)  (hx : x < 3000) (ho : o < 3000) (hn : n < 3000) {post : Outcome × zS → Prop} (h1 : zCall (d - 1) 154 [.ref 1592, .int (Int32.ofNat n), .int (Int32.ofNat o)] S (zAf d 153 106 [.ref 1592, .int 105, .int (Int32.ofNat x), .retAddr 0, .int (Int32.ofNat o), .int (Int32.ofNat n)] [] post)) : zEv d 153 91 [.ref 1592, .int 105, .int (Int32.ofNat x), .retAddr 0, .int (Int32.ofNat o), .int (Int32.ofNat n)] [] S post := by
  have ht : ztab 153 = ztb153 := rfl
  refine zv_c1 ht rfl rfl (zv_c1 ht rfl rfl (zv_c1 ht rfl rfl (zv_c1 ht rfl rfl ?_)))
  refine zv_br ht rfl rfl rfl (fun _ => ?_) (fun h => absurd (by decide) h)
  refine zv_c1 ht rfl rfl ?_
  refine zv_cl ht rfl rfl rfl rfl (by omega) (Nat.le_of_ble_eq_true rfl) h1

section Q8
variable {d : Nat} {post : Outcome × zS → Prop} {tp : Nat → Nat} {sz : Nat}
theorem mT.fr {S S' : zS} {lo hi i B nx wt : Nat} {x : zNd} (h : mT true S lo hi x i) (k : mFr B nx wt S S') (hh : hi ≤ nx) : mT true S' lo hi x i := by
  have q : ∀ j, lo ≤ j → j < hi → ∀ a ∈ mRw, gA S' a j = gA S a j := fun j _ h2 => k.2.1 j (Or.inl (by omega))
  exact h.eq (fun j h1 h2 => ⟨q j h1 h2 _ (by decide), q j h1 h2 _ (by decide), q j h1 h2 _ (by decide), q j h1 h2 _ (by decide), q j h1 h2 _ (by decide), q j h1 h2 _ (by decide), q j h1 h2 _ (by decide), q j h1 h2 _ (by decide)⟩) (fun j h1 h2 _ => q j h1 h2 _ (by decide))
theorem mT.i3 {S : zS} {lo hi i : Nat} {x : zNd} (h : mT true S lo hi x i) : (lo ≤ i ∧ i < hi) ∧ i < 3000 := by
  obtain ⟨g1, ks, g2, -⟩ := mT_iff.mp h
  exact ⟨g1, g2.1⟩
theorem pJ_leaf {k v p : Nat} (h : k < 10) : pJ (tN k v [] p []) = .ok (tN k v [] p []) := by
  have e : ty (tN k v [] p []) = tyN k v [] := ty_of (x := tN k v [] p []) (by rw [tN_Cs]; rfl)
  unfold pJ
  rw [e]
  unfold tyN tyB
  rw [if_pos (Or.inl h)]
  rfl
/-- what a piece of reading ends with -/
def mEnd (tp : Nat → Nat) (sz : Nat) (B nx wt : Nat) (S : zS) (r : pE (zNd × Nat × Nat)) (cap : Nat → Nat) (q : Int32) (S' : zS) : Prop :=
  zFin true S' ∧ mFr B nx wt S S' ∧ match r with
    | .error (k, p) => mX S' k p
    | .ok (x, at1, rd1) => ∃ i nx1, q = Int32.ofNat i ∧ mT true S' nx nx1 x i ∧ mP tp sz S' at1 rd1 nx1 wt ∧ nx1 ≤ cap at1
theorem m_wrapped {S : zS} (hF : zFin true S) (hd : 7 ≤ d) {at0 rd nx wt B lo i w p : Nat} {x : zNd} (hP : mP tp sz S at0 rd nx wt) (hB : nx + 2 ≤ B) (hB3 : B ≤ 3000) (hx : mT true S lo nx x i) (hp : p ≤ 300) (hw : (19 ≤ w ∧ w < 26) ∨ w = 103 ∨ w = 104 ∨ w = 105)
    (h : ∀ S' q, mEnd tp sz B lo wt S ((pWrap w x p).map (fun y => (y, at0, rd))) (fun _ => nx + (if w < 100 then 1 else 2)) q S' → post (.returned (some (.int q)), S')) : zCall d 153 [.ref 1592, .int (Int32.ofNat w), .int (Int32.ofNat i), .int (Int32.ofNat p)] S post := by
  have hi := hx.i3
  by_cases hw1 : w < 100
  · have ew : pWrap w x p = pJ (tN w 0 [] p [x]) := if_pos hw1
    refine wr0 hF (by omega) w i p hi.2 hp hw1 ?_
    refine m_node (v := 0) (B := B) hF hP (by omega) hB3 hw1 (by omega) hp (fun S1 f1 k1 p1 o1 => ?_)
    show zEv d 153 13 _ [.int (Int32.ofNat nx)] S1 post
    refine zEv.wk (by repeat' (first | exact trivial | exact Or.inl rfl | exact Or.inr rfl | refine ⟨?_, ?_⟩)) (wr13 (S := S1) f1 (by omega) i nx hi.2 (by omega) ?_)
    have hD : mDs S1 nx [x] [(i, lo, nx)] := ⟨hx.fr k1 (Nat.le_refl _), Or.inr (Nat.le_refl _), (fun q hq => by cases hq), trivial⟩
    have hr : ∀ r ∈ [(i, lo, nx)], lo ≤ r.2.1 ∧ r.2.2 ≤ nx + 1 := fun r hr => by
      rw [List.mem_singleton.mp hr]; exact ⟨Nat.le_refl _, by show nx ≤ nx + 1; omega⟩
    refine m_adopt (js := []) (B := B) (nx := lo) (wt := wt) f1 (by omega) (by omega) (by omega) o1 hD (fun r h1 => ⟨(hr r h1).1, by have := (hr r h1).2; omega⟩) (by simp) (by simp) (fun j hj => ⟨_, List.mem_singleton_self _, (by simpa using hj : j = i).symm⟩) (fun S2 f2 k2 t2 o2 d2 => ?_)
    show zEv d 153 22 _ [] S2 post
    refine zEv.wk (by repeat' (first | exact trivial | exact Or.inl rfl | exact Or.inr rfl | refine ⟨?_, ?_⟩)) (wr22 (S := S2) f2 (by omega) nx (by omega) ?_)
    have p2 := p1.tk t2 (by decide) (by decide)
    have k12 : mFr B lo wt S S2 := (k1.w (by omega) (Nat.le_refl _) (Nat.le_refl _)).tr k2
    refine m_judged (rs := [(i, lo, nx)]) (B := B) (lo := lo) (hi := nx + 1) f2 (by omega) p2 (by omega) (by omega) (by omega) (by omega) o2 d2 hr (by omega) (by omega) (by omega) (by omega) hp ⟨by simp; omega, by simp; omega, by simp; omega, by simp, by simp⟩ (fun S3 f3 e3 k3 t3 j3 p3 m3 => ?_) (fun S3 f3 e3 k3 x3 => ?_)
    · show zEv d 153 28 _ [.int (Int32.ofNat nx)] S3 post
      refine zEv.wk (by repeat' (first | exact trivial | exact Or.inl rfl | exact Or.inr rfl | refine ⟨?_, ?_⟩)) (wr28 (S := S3) f3 _ ?_)
      refine h S3 _ ⟨f3, k12.tr k3, ?_⟩
      rw [ew, e3]
      exact ⟨nx, nx + 1, rfl, m3, p3, by show nx + 1 ≤ nx + (if w < 100 then 1 else 2); rw [if_pos hw1]; exact Nat.le_refl _⟩
    · show zEv d 153 28 _ [.int (Int32.ofNat nx)] S3 post
      refine zEv.wk (by repeat' (first | exact trivial | exact Or.inl rfl | exact Or.inr rfl | refine ⟨?_, ?_⟩)) (wr28 (S := S3) f3 _ ?_)
      refine h S3 _ ⟨f3, k12.tr k3, ?_⟩
      rw [ew, e3]
      exact x3
  by_cases hw103 : w = 103
  · subst hw103
    have ew : pWrap 103 x p = pJ (tN 11 0 [] p [x, tN 1 0 [] p []]) := rfl
    refine wr0_103 hF (by omega) i p hi.2 hp ?_
    refine m_node (k := 1) (v := 0) (B := B) hF hP (by omega) hB3 (by omega) (by omega) hp (fun S1 f1 k1 p1 o1 => ?_)
    show zEv d 153 47 _ [.int (Int32.ofNat nx), .ref 1592] S1 post
    refine zEv.wk (by repeat' (first | exact trivial | exact Or.inl rfl | exact Or.inr rfl | refine ⟨?_, ?_⟩)) (wr47 (S := S1) f1 (by omega) 103 i p nx hi.2 hp (by omega) ?_)
    refine m_judged (rs := []) (cs := []) (B := B) (lo := nx) (hi := nx + 1) f1 (by omega) p1 (by omega) (by omega) (by omega) (by omega) o1 trivial (fun r hr => by cases hr) (by omega) (by omega) (by omega) (by omega) hp ⟨fun _ => rfl, by omega, by omega, by omega, by omega⟩ (fun S2 f2 e2 k2 t2 j2 p2 m2 => ?_) (fun S2 f2 e2 k2 x2 => by rw [pJ_leaf (by omega)] at e2; cases e2)
    show zEv d 153 50 _ [.int (Int32.ofNat nx)] S2 post
    refine zEv.wk (by repeat' (first | exact trivial | exact Or.inl rfl | exact Or.inr rfl | refine ⟨?_, ?_⟩)) (wr50_103 (S := S2) f2 (by omega) i p nx hi.2 hp (by omega) ?_)
    refine m_node (k := 11) (v := 0) (B := B) f2 p2 (by omega) hB3 (by omega) (by omega) hp (fun S3 f3 k3 p3 o3 => ?_)
    show zEv d 153 71 _ [.int (Int32.ofNat (nx + 1))] S3 post
    refine zEv.wk (by repeat' (first | exact trivial | exact Or.inl rfl | exact Or.inr rfl | refine ⟨?_, ?_⟩)) (wr71_103 (S := S3) f3 (by omega) i nx (nx + 1) hi.2 (by omega) (by omega) ?_)
    have hx3 : mT true S3 lo nx x i := ((hx.fr k1 (Nat.le_refl _)).fr k2 (Nat.le_refl _)).fr k3 (by omega)
    have ho3 : mT true S3 nx (nx + 1) (tN 1 0 [] p []) nx := m2.fr k3 (Nat.le_refl _)
    have k13 : mFr B lo wt S S3 := ((k1.w (by omega) (Nat.le_refl _) (Nat.le_refl _)).tr (k2.w (by omega) (Nat.le_refl _) (Nat.le_refl _))).tr (k3.w (by omega) (Nat.le_refl _) (Nat.le_refl _))
    have hD : mDs S3 (nx + 1) [x, tN 1 0 [] p []] [(i, lo, nx), (nx, nx, nx + 1)] := ⟨hx3, Or.inr (by show nx ≤ nx + 1; omega), (fun q hq => by rw [List.mem_singleton.mp hq]; exact Or.inl (Nat.le_refl _)), ho3, Or.inr (by show nx + 1 ≤ nx + 1; omega), (fun q hq => by cases hq), trivial⟩
    have hr : ∀ r ∈ [(i, lo, nx), (nx, nx, nx + 1)], lo ≤ r.2.1 ∧ r.2.2 ≤ nx + 2 := fun r hr => by
      rcases List.mem_cons.mp hr with e | e
      · rw [e]; exact ⟨by show lo ≤ lo; omega, by show nx ≤ nx + 2; omega⟩
      · rw [List.mem_singleton.mp e]; exact ⟨by show lo ≤ nx; omega, by show nx + 1 ≤ nx + 2; omega⟩
    have hrB : ∀ r ∈ [(i, lo, nx), (nx, nx, nx + 1)], lo ≤ r.2.1 ∧ r.2.2 ≤ B := fun r h1 => ⟨(hr r h1).1, by have := (hr r h1).2; omega⟩
    refine m_adopt (js := []) (B := B) (nx := lo) (wt := wt) f3 (by omega) (by omega) (by omega) o3 hD hrB (by simp) (by simp) (fun j hj => ⟨_, List.mem_cons_self, (by simpa using hj : j = i).symm⟩) (fun S4 f4 k4 t4 o4 d4 => ?_)
    show zEv d 153 91 _ [] S4 post
    refine zEv.wk (by repeat' (first | exact trivial | exact Or.inl rfl | exact Or.inr rfl | refine ⟨?_, ?_⟩)) (wr91_103 (S := S4) f4 (by omega) i nx (nx + 1) hi.2 (by omega) (by omega) ?_)
    refine m_adopt (js := [i]) (B := B) (nx := lo) (wt := wt) f4 (by omega) (by omega) (by omega) o4 d4 hrB (by simp) (by simp; omega) (fun j hj => by
      rcases List.mem_cons.mp hj with e | e
      · exact ⟨_, List.mem_cons_self, e.symm⟩
      · exact ⟨_, List.mem_cons_of_mem _ List.mem_cons_self, (by simpa using e : j = nx).symm⟩) (fun S5 f5 k5 t5 o5 d5 => ?_)
    show zEv d 153 109 _ [] S5 post
    refine zEv.wk (by repeat' (first | exact trivial | exact Or.inl rfl | exact Or.inr rfl | refine ⟨?_, ?_⟩)) (wr109 (S := S5) f5 (by omega) (nx + 1) (by omega) ?_)
    have p5 := (p3.tk t4 (by decide) (by decide)).tk t5 (by decide) (by decide)
    refine m_judged (rs := [(i, lo, nx), (nx, nx, nx + 1)]) (B := B) (lo := lo) (hi := nx + 2) f5 (by omega) p5 (by omega) (by omega) (by omega) (by omega) o5 d5 hr (by omega) (by omega) (by omega) (by omega) hp ⟨by omega, by omega, by intro _; rfl, by omega, by omega⟩ (fun S6 f6 e6 k6 t6 j6 p6 m6 => ?_) (fun S6 f6 e6 k6 x6 => ?_)
    · show zEv d 153 115 _ [.int (Int32.ofNat (nx + 1))] S6 post
      refine zEv.wk (by repeat' (first | exact trivial | exact Or.inl rfl | exact Or.inr rfl | refine ⟨?_, ?_⟩)) (wr115 (S := S6) f6 _ ?_)
      refine h S6 _ ⟨f6, ((k13.tr k4).tr k5).tr k6, ?_⟩
      rw [ew, e6]
      exact ⟨nx + 1, nx + 2, rfl, m6, p6, Nat.le_refl _⟩
    · show zEv d 153 115 _ [.int (Int32.ofNat (nx + 1))] S6 post
      refine zEv.wk (by repeat' (first | exact trivial | exact Or.inl rfl | exact Or.inr rfl | refine ⟨?_, ?_⟩)) (wr115 (S := S6) f6 _ ?_)
      refine h S6 _ ⟨f6, ((k13.tr k4).tr k5).tr k6, ?_⟩
      rw [ew, e6]
      exact x6
  by_cases hw104 : w = 104
  · subst hw104
    have ew : pWrap 104 x p = pJ (tN 16 0 [] p [tN 0 0 [] p [], x]) := rfl
    refine wr0_104 hF (by omega) i p hi.2 hp ?_
    refine m_node (k := 0) (v := 0) (B := B) hF hP (by omega) hB3 (by omega) (by omega) hp (fun S1 f1 k1 p1 o1 => ?_)
    show zEv d 153 47 _ [.int (Int32.ofNat nx), .ref 1592] S1 post
    refine zEv.wk (by repeat' (first | exact trivial | exact Or.inl rfl | exact Or.inr rfl | refine ⟨?_, ?_⟩)) (wr47 (S := S1) f1 (by omega) 104 i p nx hi.2 hp (by omega) ?_)
    refine m_judged (rs := []) (cs := []) (B := B) (lo := nx) (hi := nx + 1) f1 (by omega) p1 (by omega) (by omega) (by omega) (by omega) o1 trivial (fun r hr => by cases hr) (by omega) (by omega) (by omega) (by omega) hp ⟨fun _ => rfl, by omega, by omega, by omega, by omega⟩ (fun S2 f2 e2 k2 t2 j2 p2 m2 => ?_) (fun S2 f2 e2 k2 x2 => by rw [pJ_leaf (by omega)] at e2; cases e2)
    show zEv d 153 50 _ [.int (Int32.ofNat nx)] S2 post
    refine zEv.wk (by repeat' (first | exact trivial | exact Or.inl rfl | exact Or.inr rfl | refine ⟨?_, ?_⟩)) (wr50_104 (S := S2) f2 (by omega) i p nx hi.2 hp (by omega) ?_)
    refine m_node (k := 16) (v := 0) (B := B) f2 p2 (by omega) hB3 (by omega) (by omega) hp (fun S3 f3 k3 p3 o3 => ?_)
    show zEv d 153 71 _ [.int (Int32.ofNat (nx + 1))] S3 post
    refine zEv.wk (by repeat' (first | exact trivial | exact Or.inl rfl | exact Or.inr rfl | refine ⟨?_, ?_⟩)) (wr71_104 (S := S3) f3 (by omega) i nx (nx + 1) hi.2 (by omega) (by omega) ?_)
    have hx3 : mT true S3 lo nx x i := ((hx.fr k1 (Nat.le_refl _)).fr k2 (Nat.le_refl _)).fr k3 (by omega)
    have ho3 : mT true S3 nx (nx + 1) (tN 0 0 [] p []) nx := m2.fr k3 (Nat.le_refl _)
    have k13 : mFr B lo wt S S3 := ((k1.w (by omega) (Nat.le_refl _) (Nat.le_refl _)).tr (k2.w (by omega) (Nat.le_refl _) (Nat.le_refl _))).tr (k3.w (by omega) (Nat.le_refl _) (Nat.le_refl _))
    have hD : mDs S3 (nx + 1) [tN 0 0 [] p [], x] [(nx, nx, nx + 1), (i, lo, nx)] := ⟨ho3, Or.inr (by show nx + 1 ≤ nx + 1; omega), (fun q hq => by rw [List.mem_singleton.mp hq]; exact Or.inr (Nat.le_refl _)), hx3, Or.inr (by show nx ≤ nx + 1; omega), (fun q hq => by cases hq), trivial⟩
    have hr : ∀ r ∈ [(nx, nx, nx + 1), (i, lo, nx)], lo ≤ r.2.1 ∧ r.2.2 ≤ nx + 2 := fun r hr => by
      rcases List.mem_cons.mp hr with e | e
      · rw [e]; exact ⟨by show lo ≤ nx; omega, by show nx + 1 ≤ nx + 2; omega⟩
      · rw [List.mem_singleton.mp e]; exact ⟨by show lo ≤ lo; omega, by show nx ≤ nx + 2; omega⟩
    have hrB : ∀ r ∈ [(nx, nx, nx + 1), (i, lo, nx)], lo ≤ r.2.1 ∧ r.2.2 ≤ B := fun r h1 => ⟨(hr r h1).1, by have := (hr r h1).2; omega⟩
    refine m_adopt (js := []) (B := B) (nx := lo) (wt := wt) f3 (by omega) (by omega) (by omega) o3 hD hrB (by simp) (by simp) (fun j hj => ⟨_, List.mem_cons_self, (by simpa using hj : j = nx).symm⟩) (fun S4 f4 k4 t4 o4 d4 => ?_)
    show zEv d 153 91 _ [] S4 post
    refine zEv.wk (by repeat' (first | exact trivial | exact Or.inl rfl | exact Or.inr rfl | refine ⟨?_, ?_⟩)) (wr91_104 (S := S4) f4 (by omega) i nx (nx + 1) hi.2 (by omega) (by omega) ?_)
    refine m_adopt (js := [nx]) (B := B) (nx := lo) (wt := wt) f4 (by omega) (by omega) (by omega) o4 d4 hrB (by simp) (by simp; omega) (fun j hj => by
      rcases List.mem_cons.mp hj with e | e
      · exact ⟨_, List.mem_cons_self, e.symm⟩
      · exact ⟨_, List.mem_cons_of_mem _ List.mem_cons_self, (by simpa using e : j = i).symm⟩) (fun S5 f5 k5 t5 o5 d5 => ?_)
    show zEv d 153 109 _ [] S5 post
    refine zEv.wk (by repeat' (first | exact trivial | exact Or.inl rfl | exact Or.inr rfl | refine ⟨?_, ?_⟩)) (wr109 (S := S5) f5 (by omega) (nx + 1) (by omega) ?_)
    have p5 := (p3.tk t4 (by decide) (by decide)).tk t5 (by decide) (by decide)
    refine m_judged (rs := [(nx, nx, nx + 1), (i, lo, nx)]) (B := B) (lo := lo) (hi := nx + 2) f5 (by omega) p5 (by omega) (by omega) (by omega) (by omega) o5 d5 hr (by omega) (by omega) (by omega) (by omega) hp ⟨by omega, by omega, by intro _; rfl, by omega, by omega⟩ (fun S6 f6 e6 k6 t6 j6 p6 m6 => ?_) (fun S6 f6 e6 k6 x6 => ?_)
    · show zEv d 153 115 _ [.int (Int32.ofNat (nx + 1))] S6 post
      refine zEv.wk (by repeat' (first | exact trivial | exact Or.inl rfl | exact Or.inr rfl | refine ⟨?_, ?_⟩)) (wr115 (S := S6) f6 _ ?_)
      refine h S6 _ ⟨f6, ((k13.tr k4).tr k5).tr k6, ?_⟩
      rw [ew, e6]
      exact ⟨nx + 1, nx + 2, rfl, m6, p6, Nat.le_refl _⟩
    · show zEv d 153 115 _ [.int (Int32.ofNat (nx + 1))] S6 post
      refine zEv.wk (by repeat' (first | exact trivial | exact Or.inl rfl | exact Or.inr rfl | refine ⟨?_, ?_⟩)) (wr115 (S := S6) f6 _ ?_)
      refine h S6 _ ⟨f6, ((k13.tr k4).tr k5).tr k6, ?_⟩
      rw [ew, e6]
      exact x6
  by_cases hw105 : w = 105
  · subst hw105
    have ew : pWrap 105 x p = pJ (tN 16 0 [] p [x, tN 0 0 [] p []]) := rfl
    refine wr0_105 hF (by omega) i p hi.2 hp ?_
    refine m_node (k := 0) (v := 0) (B := B) hF hP (by omega) hB3 (by omega) (by omega) hp (fun S1 f1 k1 p1 o1 => ?_)
    show zEv d 153 47 _ [.int (Int32.ofNat nx), .ref 1592] S1 post
    refine zEv.wk (by repeat' (first | exact trivial | exact Or.inl rfl | exact Or.inr rfl | refine ⟨?_, ?_⟩)) (wr47 (S := S1) f1 (by omega) 105 i p nx hi.2 hp (by omega) ?_)
    refine m_judged (rs := []) (cs := []) (B := B) (lo := nx) (hi := nx + 1) f1 (by omega) p1 (by omega) (by omega) (by omega) (by omega) o1 trivial (fun r hr => by cases hr) (by omega) (by omega) (by omega) (by omega) hp ⟨fun _ => rfl, by omega, by omega, by omega, by omega⟩ (fun S2 f2 e2 k2 t2 j2 p2 m2 => ?_) (fun S2 f2 e2 k2 x2 => by rw [pJ_leaf (by omega)] at e2; cases e2)
    show zEv d 153 50 _ [.int (Int32.ofNat nx)] S2 post
    refine zEv.wk (by repeat' (first | exact trivial | exact Or.inl rfl | exact Or.inr rfl | refine ⟨?_, ?_⟩)) (wr50_105 (S := S2) f2 (by omega) i p nx hi.2 hp (by omega) ?_)
    refine m_node (k := 16) (v := 0) (B := B) f2 p2 (by omega) hB3 (by omega) (by omega) hp (fun S3 f3 k3 p3 o3 => ?_)
    show zEv d 153 71 _ [.int (Int32.ofNat (nx + 1))] S3 post
    refine zEv.wk (by repeat' (first | exact trivial | exact Or.inl rfl | exact Or.inr rfl | refine ⟨?_, ?_⟩)) (wr71_105 (S := S3) f3 (by omega) i nx (nx + 1) hi.2 (by omega) (by omega) ?_)
    have hx3 : mT true S3 lo nx x i := ((hx.fr k1 (Nat.le_refl _)).fr k2 (Nat.le_refl _)).fr k3 (by omega)
    have ho3 : mT true S3 nx (nx + 1) (tN 0 0 [] p []) nx := m2.fr k3 (Nat.le_refl _)
    have k13 : mFr B lo wt S S3 := ((k1.w (by omega) (Nat.le_refl _) (Nat.le_refl _)).tr (k2.w (by omega) (Nat.le_refl _) (Nat.le_refl _))).tr (k3.w (by omega) (Nat.le_refl _) (Nat.le_refl _))
    have hD : mDs S3 (nx + 1) [x, tN 0 0 [] p []] [(i, lo, nx), (nx, nx, nx + 1)] := ⟨hx3, Or.inr (by show nx ≤ nx + 1; omega), (fun q hq => by rw [List.mem_singleton.mp hq]; exact Or.inl (Nat.le_refl _)), ho3, Or.inr (by show nx + 1 ≤ nx + 1; omega), (fun q hq => by cases hq), trivial⟩
    have hr : ∀ r ∈ [(i, lo, nx), (nx, nx, nx + 1)], lo ≤ r.2.1 ∧ r.2.2 ≤ nx + 2 := fun r hr => by
      rcases List.mem_cons.mp hr with e | e
      · rw [e]; exact ⟨by show lo ≤ lo; omega, by show nx ≤ nx + 2; omega⟩
      · rw [List.mem_singleton.mp e]; exact ⟨by show lo ≤ nx; omega, by show nx + 1 ≤ nx + 2; omega⟩
    have hrB : ∀ r ∈ [(i, lo, nx), (nx, nx, nx + 1)], lo ≤ r.2.1 ∧ r.2.2 ≤ B := fun r h1 => ⟨(hr r h1).1, by have := (hr r h1).2; omega⟩
    refine m_adopt (js := []) (B := B) (nx := lo) (wt := wt) f3 (by omega) (by omega) (by omega) o3 hD hrB (by simp) (by simp) (fun j hj => ⟨_, List.mem_cons_self, (by simpa using hj : j = i).symm⟩) (fun S4 f4 k4 t4 o4 d4 => ?_)
    show zEv d 153 91 _ [] S4 post
    refine zEv.wk (by repeat' (first | exact trivial | exact Or.inl rfl | exact Or.inr rfl | refine ⟨?_, ?_⟩)) (wr91_105 (S := S4) f4 (by omega) i nx (nx + 1) hi.2 (by omega) (by omega) ?_)
    refine m_adopt (js := [i]) (B := B) (nx := lo) (wt := wt) f4 (by omega) (by omega) (by omega) o4 d4 hrB (by simp) (by simp; omega) (fun j hj => by
      rcases List.mem_cons.mp hj with e | e
      · exact ⟨_, List.mem_cons_self, e.symm⟩
      · exact ⟨_, List.mem_cons_of_mem _ List.mem_cons_self, (by simpa using e : j = nx).symm⟩) (fun S5 f5 k5 t5 o5 d5 => ?_)
    show zEv d 153 109 _ [] S5 post
    refine zEv.wk (by repeat' (first | exact trivial | exact Or.inl rfl | exact Or.inr rfl | refine ⟨?_, ?_⟩)) (wr109 (S := S5) f5 (by omega) (nx + 1) (by omega) ?_)
    have p5 := (p3.tk t4 (by decide) (by decide)).tk t5 (by decide) (by decide)
    refine m_judged (rs := [(i, lo, nx), (nx, nx, nx + 1)]) (B := B) (lo := lo) (hi := nx + 2) f5 (by omega) p5 (by omega) (by omega) (by omega) (by omega) o5 d5 hr (by omega) (by omega) (by omega) (by omega) hp ⟨by omega, by omega, by intro _; rfl, by omega, by omega⟩ (fun S6 f6 e6 k6 t6 j6 p6 m6 => ?_) (fun S6 f6 e6 k6 x6 => ?_)
    · show zEv d 153 115 _ [.int (Int32.ofNat (nx + 1))] S6 post
      refine zEv.wk (by repeat' (first | exact trivial | exact Or.inl rfl | exact Or.inr rfl | refine ⟨?_, ?_⟩)) (wr115 (S := S6) f6 _ ?_)
      refine h S6 _ ⟨f6, ((k13.tr k4).tr k5).tr k6, ?_⟩
      rw [ew, e6]
      exact ⟨nx + 1, nx + 2, rfl, m6, p6, Nat.le_refl _⟩
    · show zEv d 153 115 _ [.int (Int32.ofNat (nx + 1))] S6 post
      refine zEv.wk (by repeat' (first | exact trivial | exact Or.inl rfl | exact Or.inr rfl | refine ⟨?_, ?_⟩)) (wr115 (S := S6) f6 _ ?_)
      refine h S6 _ ⟨f6, ((k13.tr k4).tr k5).tr k6, ?_⟩
      rw [ew, e6]
      exact x6
  omega
end Q8

