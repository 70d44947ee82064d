set_option maxRecDepth 100000
/-! ===== numbers as texts ===== -/
def dec (n : Nat) : List Nat := if n < 10 then [48 + n] else dec (n / 10) ++ [48 + n % 10]
theorem dec_lt {n : Nat} (h : n < 10) : dec n = [48 + n] := by rw [dec, if_pos h]
theorem dec_ge {n : Nat} (h : 10 ≤ n) : dec n = dec (n / 10) ++ [48 + n % 10] := by rw [dec, if_neg (by omega)]
theorem dec_len : ∀ (p n : Nat), n < 10 ^ (p + 1) → (p = 0 ∨ 10 ^ p ≤ n) → (dec n).length = p + 1 := by
  intro p
  induction p with
  | zero => intro n h _; rw [dec_lt (by simpa using h)]; rfl
  | succ p ih =>
    intro n h1 h2
    have h3 : 10 ^ (p + 1) ≤ n := h2.resolve_left (by omega)
    have h0 : 0 < 10 ^ p := Nat.pow_pos (by decide)
    have h4 : 10 ≤ n := by rw [Nat.pow_succ] at h3; omega
    rw [dec_ge h4, List.length_append, ih (n / 10) ?_ (Or.inr ?_)]
    · rfl
    · rw [Nat.pow_succ] at h1; omega
    · rw [Nat.pow_succ] at h3; omega
theorem dec_128 : ∀ (n : Nat), ∀ c ∈ dec n, c < 128 := by
  intro n
  induction n using Nat.strongRecOn with
  | ind n ih =>
    intro c hc
    by_cases h : n < 10
    · rw [dec_lt h, List.mem_singleton] at hc; omega
    · rw [dec_ge (by omega)] at hc
      rcases List.mem_append.mp hc with hc | hc
      · exact ih (n / 10) (by omega) c hc
      · rw [List.mem_singleton] at hc; omega
theorem dec_pos (n : Nat) : 0 < (dec n).length := by
  by_cases h : n < 10
  · rw [dec_lt h]; simp
  · rw [dec_ge (by omega)]; simp
theorem dec_max {n : Nat} (h : n < 2147483648) : (dec n).length ≤ 10 := by
  have key : ∀ p m, m < 10 ^ (p + 1) → (dec m).length ≤ p + 1 := by
    intro p
    induction p with
    | zero => intro m h; rw [dec_lt (by simpa using h)]; exact Nat.le_refl _
    | succ p ih =>
      intro m h
      by_cases h1 : m < 10
      · rw [dec_lt h1]; simp
      · rw [dec_ge (by omega), List.length_append]
        have := ih (m / 10) (by rw [Nat.pow_succ] at h; omega)
        simp; omega
  exact key 9 n (by omega)
theorem sz0 {d : Nat} {S : zS} (hF : zFin true S) (x : Nat) (hx : x < 2147483648) {post : Outcome × zS → Prop} (h1 : zEv d 442 16 [.int (-(Int32.ofNat x)), .int (Int32.ofNat 0), .int (-10), .int (Int32.ofNat 1)] [] S post) : zCall d 442 [.int (Int32.ofNat x)] S post := by
  have ht : ztab 442 = ztb442 := rfl
  show zEv d 442 0 [.int (Int32.ofNat x), .retAddr 0, .retAddr 0, .retAddr 0] [] S post
  refine zv_c1 ht rfl rfl ?_
  refine zv_c2 (L' := [.int (Int32.ofNat x), .int 1, .retAddr 0, .retAddr 0]) ht rfl rfl ?_
  refine zv_c1 ht rfl rfl ?_
  refine zv_br ht rfl rfl rfl (fun b1 => (show False from by have hq := b1; have hz : x < 0 := (zi_ltE (a := x) (b := 0) rfl rfl (by omega) (by omega)).mp hq; omega).elim) (fun b1 => ?_)
  refine zv_c1 ht rfl rfl ?_
  refine zv_c2 (L' := [.int (Int32.ofNat x), .int 0, .retAddr 0, .retAddr 0]) ht rfl rfl ?_
  refine zv_c1 ht rfl rfl ?_
  refine zv_c1 (st' := [.int (-(Int32.ofNat x))]) (S' := S) ht rfl rfl ?_
  refine zv_c2 (L' := [.int (-(Int32.ofNat x)), .int 0, .retAddr 0, .retAddr 0]) ht rfl rfl ?_
  refine zv_c1 ht rfl rfl ?_
  refine zv_c2 (L' := [.int (-(Int32.ofNat x)), .int 0, .int (-10), .retAddr 0]) ht rfl rfl ?_
  refine zv_c1 ht rfl rfl ?_
  refine zv_c2 (L' := [.int (-(Int32.ofNat x)), .int 0, .int (-10), .int 1]) ht rfl rfl ?_
  exact h1

theorem sz11 {d : Nat} {S : zS} (hF : zFin true S) (x : Nat) (hx : x < 2147483648) {post : Outcome × zS → Prop} (h1 : (10 ≤ x) → zEv d 442 16 [.int (-(Int32.ofNat x)), .int (Int32.ofNat 0), .int (-100), .int (Int32.ofNat 2)] [] S post) (h2 : (¬ (10 ≤ x)) → post (.returned (some (.int 1)), S)) : zEv d 442 16 [.int (-(Int32.ofNat x)), .int 0, .int (-10), .int 1] [] S post := by
  have ht : ztab 442 = ztb442 := rfl
  refine zv_c1 ht rfl rfl (zv_c1 ht rfl rfl ?_)
  refine zv_br ht rfl rfl rfl (fun h => absurd h (by decide)) (fun _ => ?_)
  refine zv_c1 ht rfl rfl (zv_c1 ht rfl rfl ?_)
  refine zv_br ht rfl rfl rfl (fun b1 => ?_) (fun b1 => ?_)
  · replace b1 : 10 ≤ x := (zi_ngle (a := x) (b := 10) (by omega) (by omega)).mp b1
    refine zv_c1 ht rfl rfl (zv_c1 ht rfl rfl ?_)
    refine zv_c1 (st' := [.int (-100)]) (S' := S) ht rfl rfl ?_
    refine zv_c2 (L' := [.int (-(Int32.ofNat x)), .int 0, .int (-100), .int 1]) ht rfl rfl ?_
    refine zv_c2 (L' := [.int (-(Int32.ofNat x)), .int 0, .int (-100), .int 2]) ht rfl rfl ?_
    refine zv_c1 ht rfl rfl ?_
    exact (h1 b1)
  · replace b1 : ¬ (10 ≤ x) := fun h => b1 ((zi_ngle (a := x) (b := 10) (by omega) (by omega)).mpr h)
    refine zv_c1 ht rfl rfl (zv_c1 ht rfl rfl ?_)
    refine zv_c1 (st' := [.int 1]) (S' := S) ht rfl rfl ?_
    exact zv_rt ht rfl rfl rfl rfl (h2 b1)

theorem sz12 {d : Nat} {S : zS} (hF : zFin true S) (x : Nat) (hx : x < 2147483648) {post : Outcome × zS → Prop} (h1 : (100 ≤ x) → zEv d 442 16 [.int (-(Int32.ofNat x)), .int (Int32.ofNat 0), .int (-1000), .int (Int32.ofNat 3)] [] S post) (h2 : (¬ (100 ≤ x)) → post (.returned (some (.int 2)), S)) : zEv d 442 16 [.int (-(Int32.ofNat x)), .int 0, .int (-100), .int 2] [] S post := by
  have ht : ztab 442 = ztb442 := rfl
  refine zv_c1 ht rfl rfl (zv_c1 ht rfl rfl ?_)
  refine zv_br ht rfl rfl rfl (fun h => absurd h (by decide)) (fun _ => ?_)
  refine zv_c1 ht rfl rfl (zv_c1 ht rfl rfl ?_)
  refine zv_br ht rfl rfl rfl (fun b1 => ?_) (fun b1 => ?_)
  · replace b1 : 100 ≤ x := (zi_ngle (a := x) (b := 100) (by omega) (by omega)).mp b1
    refine zv_c1 ht rfl rfl (zv_c1 ht rfl rfl ?_)
    refine zv_c1 (st' := [.int (-1000)]) (S' := S) ht rfl rfl ?_
    refine zv_c2 (L' := [.int (-(Int32.ofNat x)), .int 0, .int (-1000), .int 2]) ht rfl rfl ?_
    refine zv_c2 (L' := [.int (-(Int32.ofNat x)), .int 0, .int (-1000), .int 3]) ht rfl rfl ?_
    refine zv_c1 ht rfl rfl ?_
    exact (h1 b1)
  · replace b1 : ¬ (100 ≤ x) := fun h => b1 ((zi_ngle (a := x) (b := 100) (by omega) (by omega)).mpr h)
    refine zv_c1 ht rfl rfl (zv_c1 ht rfl rfl ?_)
    refine zv_c1 (st' := [.int 2]) (S' := S) ht rfl rfl ?_
    exact zv_rt ht rfl rfl rfl rfl (h2 b1)

theorem sz13 {d : Nat} {S : zS} (hF : zFin true S) (x : Nat) (hx : x < 2147483648) {post : Outcome × zS → Prop} (h1 : (1000 ≤ x) → zEv d 442 16 [.int (-(Int32.ofNat x)), .int (Int32.ofNat 0), .int (-10000), .int (Int32.ofNat 4)] [] S post) (h2 : (¬ (1000 ≤ x)) → post (.returned (some (.int 3)), S)) : zEv d 442 16 [.int (-(Int32.ofNat x)), .int 0, .int (-1000), .int 3] [] S post := by
  have ht : ztab 442 = ztb442 := rfl
  refine zv_c1 ht rfl rfl (zv_c1 ht rfl rfl ?_)
  refine zv_br ht rfl rfl rfl (fun h => absurd h (by decide)) (fun _ => ?_)
  refine zv_c1 ht rfl rfl (zv_c1 ht rfl rfl ?_)
  refine zv_br ht rfl rfl rfl (fun b1 => ?_) (fun b1 => ?_)
  · replace b1 : 1000 ≤ x := (zi_ngle (a := x) (b := 1000) (by omega) (by omega)).mp b1
    refine zv_c1 ht rfl rfl (zv_c1 ht rfl rfl ?_)
    refine zv_c1 (st' := [.int (-10000)]) (S' := S) ht rfl rfl ?_
    refine zv_c2 (L' := [.int (-(Int32.ofNat x)), .int 0, .int (-10000), .int 3]) ht rfl rfl ?_
    refine zv_c2 (L' := [.int (-(Int32.ofNat x)), .int 0, .int (-10000), .int 4]) ht rfl rfl ?_
    refine zv_c1 ht rfl rfl ?_
    exact (h1 b1)
  · replace b1 : ¬ (1000 ≤ x) := fun h => b1 ((zi_ngle (a := x) (b := 1000) (by omega) (by omega)).mpr h)
    refine zv_c1 ht rfl rfl (zv_c1 ht rfl rfl ?_)
    refine zv_c1 (st' := [.int 3]) (S' := S) ht rfl rfl ?_
    exact zv_rt ht rfl rfl rfl rfl (h2 b1)

theorem sz14 {d : Nat} {S : zS} (hF : zFin true S) (x : Nat) (hx : x < 2147483648) {post : Outcome × zS → Prop} (h1 : (10000 ≤ x) → zEv d 442 16 [.int (-(Int32.ofNat x)), .int (Int32.ofNat 0), .int (-100000), .int (Int32.ofNat 5)] [] S post) (h2 : (¬ (10000 ≤ x)) → post (.returned (some (.int 4)), S)) : zEv d 442 16 [.int (-(Int32.ofNat x)), .int 0, .int (-10000), .int 4] [] S post := by
  have ht : ztab 442 = ztb442 := rfl
  refine zv_c1 ht rfl rfl (zv_c1 ht rfl rfl ?_)
  refine zv_br ht rfl rfl rfl (fun h => absurd h (by decide)) (fun _ => ?_)
  refine zv_c1 ht rfl rfl (zv_c1 ht rfl rfl ?_)
  refine zv_br ht rfl rfl rfl (fun b1 => ?_) (fun b1 => ?_)
  · replace b1 : 10000 ≤ x := (zi_ngle (a := x) (b := 10000) (by omega) (by omega)).mp b1
    refine zv_c1 ht rfl rfl (zv_c1 ht rfl rfl ?_)
    refine zv_c1 (st' := [.int (-100000)]) (S' := S) ht rfl rfl ?_
    refine zv_c2 (L' := [.int (-(Int32.ofNat x)), .int 0, .int (-100000), .int 4]) ht rfl rfl ?_
    refine zv_c2 (L' := [.int (-(Int32.ofNat x)), .int 0, .int (-100000), .int 5]) ht rfl rfl ?_
    refine zv_c1 ht rfl rfl ?_
    exact (h1 b1)
  · replace b1 : ¬ (10000 ≤ x) := fun h => b1 ((zi_ngle (a := x) (b := 10000) (by omega) (by omega)).mpr h)
    refine zv_c1 ht rfl rfl (zv_c1 ht rfl rfl ?_)
    refine zv_c1 (st' := [.int 4]) (S' := S) ht rfl rfl ?_
    exact zv_rt ht rfl rfl rfl rfl (h2 b1)

theorem sz15 {d : Nat} {S : zS} (hF : zFin true S) (x : Nat) (hx : x < 2147483648) {post : Outcome × zS → Prop} (h1 : (100000 ≤ x) → zEv d 442 16 [.int (-(Int32.ofNat x)), .int (Int32.ofNat 0), .int (-1000000), .int (Int32.ofNat 6)] [] S post) (h2 : (¬ (100000 ≤ x)) → post (.returned (some (.int 5)), S)) : zEv d 442 16 [.int (-(Int32.ofNat x)), .int 0, .int (-100000), .int 5] [] S post := by
  have ht : ztab 442 = ztb442 := rfl
  refine zv_c1 ht rfl rfl (zv_c1 ht rfl rfl ?_)
  refine zv_br ht rfl rfl rfl (fun h => absurd h (by decide)) (fun _ => ?_)
  refine zv_c1 ht rfl rfl (zv_c1 ht rfl rfl ?_)
  refine zv_br ht rfl rfl rfl (fun b1 => ?_) (fun b1 => ?_)
  · replace b1 : 100000 ≤ x := (zi_ngle (a := x) (b := 100000) (by omega) (by omega)).mp b1
    refine zv_c1 ht rfl rfl (zv_c1 ht rfl rfl ?_)
    refine zv_c1 (st' := [.int (-1000000)]) (S' := S) ht rfl rfl ?_
    refine zv_c2 (L' := [.int (-(Int32.ofNat x)), .int 0, .int (-1000000), .int 5]) ht rfl rfl ?_
    refine zv_c2 (L' := [.int (-(Int32.ofNat x)), .int 0, .int (-1000000), .int 6]) ht rfl rfl ?_
    refine zv_c1 ht rfl rfl ?_
    exact (h1 b1)
  · replace b1 : ¬ (100000 ≤ x) := fun h => b1 ((zi_ngle (a := x) (b := 100000) (by omega) (by omega)).mpr h)
    refine zv_c1 ht rfl rfl (zv_c1 ht rfl rfl ?_)
    refine zv_c1 (st' := [.int 5]) (S' := S) ht rfl rfl ?_
    exact zv_rt ht rfl rfl rfl rfl (h2 b1)

theorem sz16 {d : Nat} {S : zS} (hF : zFin true S) (x : Nat) (hx : x < 2147483648) {post : Outcome × zS → Prop} (h1 : (1000000 ≤ x) → zEv d 442 16 [.int (-(Int32.ofNat x)), .int (Int32.ofNat 0), .int (-10000000), .int (Int32.ofNat 7)] [] S post) (h2 : (¬ (1000000 ≤ x)) → post (.returned (some (.int 6)), S)) : zEv d 442 16 [.int (-(Int32.ofNat x)), .int 0, .int (-1000000), .int 6] [] S post := by
  have ht : ztab 442 = ztb442 := rfl
  refine zv_c1 ht rfl rfl (zv_c1 ht rfl rfl ?_)
  refine zv_br ht rfl rfl rfl (fun h => absurd h (by decide)) (fun _ => ?_)
  refine zv_c1 ht rfl rfl (zv_c1 ht rfl rfl ?_)
  refine zv_br ht rfl rfl rfl (fun b1 => ?_) (fun b1 => ?_)
  · replace b1 : 1000000 ≤ x := (zi_ngle (a := x) (b := 1000000) (by omega) (by omega)).mp b1
    refine zv_c1 ht rfl rfl (zv_c1 ht rfl rfl ?_)
    refine zv_c1 (st' := [.int (-10000000)]) (S' := S) ht rfl rfl ?_
    refine zv_c2 (L' := [.int (-(Int32.ofNat x)), .int 0, .int (-10000000), .int 6]) ht rfl rfl ?_
    refine zv_c2 (L' := [.int (-(Int32.ofNat x)), .int 0, .int (-10000000), .int 7]) ht rfl rfl ?_
    refine zv_c1 ht rfl rfl ?_
    exact (h1 b1)
  · replace b1 : ¬ (1000000 ≤ x) := fun h => b1 ((zi_ngle (a := x) (b := 1000000) (by omega) (by omega)).mpr h)
    refine zv_c1 ht rfl rfl (zv_c1 ht rfl rfl ?_)
    refine zv_c1 (st' := [.int 6]) (S' := S) ht rfl rfl ?_
    exact zv_rt ht rfl rfl rfl rfl (h2 b1)

theorem sz17 {d : Nat} {S : zS} (hF : zFin true S) (x : Nat) (hx : x < 2147483648) {post : Outcome × zS → Prop} (h1 : (10000000 ≤ x) → zEv d 442 16 [.int (-(Int32.ofNat x)), .int (Int32.ofNat 0), .int (-100000000), .int (Int32.ofNat 8)] [] S post) (h2 : (¬ (10000000 ≤ x)) → post (.returned (some (.int 7)), S)) : zEv d 442 16 [.int (-(Int32.ofNat x)), .int 0, .int (-10000000), .int 7] [] S post := by
  have ht : ztab 442 = ztb442 := rfl
  refine zv_c1 ht rfl rfl (zv_c1 ht rfl rfl ?_)
  refine zv_br ht rfl rfl rfl (fun h => absurd h (by decide)) (fun _ => ?_)
  refine zv_c1 ht rfl rfl (zv_c1 ht rfl rfl ?_)
  refine zv_br ht rfl rfl rfl (fun b1 => ?_) (fun b1 => ?_)
  · replace b1 : 10000000 ≤ x := (zi_ngle (a := x) (b := 10000000) (by omega) (by omega)).mp b1
    refine zv_c1 ht rfl rfl (zv_c1 ht rfl rfl ?_)
    refine zv_c1 (st' := [.int (-100000000)]) (S' := S) ht rfl rfl ?_
    refine zv_c2 (L' := [.int (-(Int32.ofNat x)), .int 0, .int (-100000000), .int 7]) ht rfl rfl ?_
    refine zv_c2 (L' := [.int (-(Int32.ofNat x)), .int 0, .int (-100000000), .int 8]) ht rfl rfl ?_
    refine zv_c1 ht rfl rfl ?_
    exact (h1 b1)
  · replace b1 : ¬ (10000000 ≤ x) := fun h => b1 ((zi_ngle (a := x) (b := 10000000) (by omega) (by omega)).mpr h)
    refine zv_c1 ht rfl rfl (zv_c1 ht rfl rfl ?_)
    refine zv_c1 (st' := [.int 7]) (S' := S) ht rfl rfl ?_
    exact zv_rt ht rfl rfl rfl rfl (h2 b1)

theorem sz18 {d : Nat} {S : zS} (hF : zFin true S) (x : Nat) (hx : x < 2147483648) {post : Outcome × zS → Prop} (h1 : (100000000 ≤ x) → zEv d 442 16 [.int (-(Int32.ofNat x)), .int (Int32.ofNat 0), .int (-1000000000), .int (Int32.ofNat 9)] [] S post) (h2 : (¬ (100000000 ≤ x)) → post (.returned (some (.int 8)), S)) : zEv d 442 16 [.int (-(Int32.ofNat x)), .int 0, .int (-100000000), .int 8] [] S post := by
  have ht : ztab 442 = ztb442 := rfl
  refine zv_c1 ht rfl rfl (zv_c1 ht rfl rfl ?_)
  refine zv_br ht rfl rfl rfl (fun h => absurd h (by decide)) (fun _ => ?_)
  refine zv_c1 ht rfl rfl (zv_c1 ht rfl rfl ?_)
  refine zv_br ht rfl rfl rfl (fun b1 => ?_) (fun b1 => ?_)
  · replace b1 : 100000000 ≤ x := (zi_ngle (a := x) (b := 100000000) (by omega) (by omega)).mp b1
    refine zv_c1 ht rfl rfl (zv_c1 ht rfl rfl ?_)
    refine zv_c1 (st' := [.int (-1000000000)]) (S' := S) ht rfl rfl ?_
    refine zv_c2 (L' := [.int (-(Int32.ofNat x)), .int 0, .int (-1000000000), .int 8]) ht rfl rfl ?_
    refine zv_c2 (L' := [.int (-(Int32.ofNat x)), .int 0, .int (-1000000000), .int 9]) ht rfl rfl ?_
    refine zv_c1 ht rfl rfl ?_
    exact (h1 b1)
  · replace b1 : ¬ (100000000 ≤ x) := fun h => b1 ((zi_ngle (a := x) (b := 100000000) (by omega) (by omega)).mpr h)
    refine zv_c1 ht rfl rfl (zv_c1 ht rfl rfl ?_)
    refine zv_c1 (st' := [.int 8]) (S' := S) ht rfl rfl ?_
    exact zv_rt ht rfl rfl rfl rfl (h2 b1)

theorem sz19 {d : Nat} {S : zS} (hF : zFin true S) (x : Nat) (hx : x < 2147483648) {post : Outcome × zS → Prop} (h1 : (1000000000 ≤ x) → zEv d 442 16 [.int (-(Int32.ofNat x)), .int (Int32.ofNat 0), .int (-1410065408), .int (Int32.ofNat 10)] [] S post) (h2 : (¬ (1000000000 ≤ x)) → post (.returned (some (.int 9)), S)) : zEv d 442 16 [.int (-(Int32.ofNat x)), .int 0, .int (-1000000000), .int 9] [] S post := by
  have ht : ztab 442 = ztb442 := rfl
  refine zv_c1 ht rfl rfl (zv_c1 ht rfl rfl ?_)
  refine zv_br ht rfl rfl rfl (fun h => absurd h (by decide)) (fun _ => ?_)
  refine zv_c1 ht rfl rfl (zv_c1 ht rfl rfl ?_)
  refine zv_br ht rfl rfl rfl (fun b1 => ?_) (fun b1 => ?_)
  · replace b1 : 1000000000 ≤ x := (zi_ngle (a := x) (b := 1000000000) (by omega) (by omega)).mp b1
    refine zv_c1 ht rfl rfl (zv_c1 ht rfl rfl ?_)
    refine zv_c1 (st' := [.int (-1410065408)]) (S' := S) ht rfl rfl ?_
    refine zv_c2 (L' := [.int (-(Int32.ofNat x)), .int 0, .int (-1410065408), .int 9]) ht rfl rfl ?_
    refine zv_c2 (L' := [.int (-(Int32.ofNat x)), .int 0, .int (-1410065408), .int 10]) ht rfl rfl ?_
    refine zv_c1 ht rfl rfl ?_
    exact (h1 b1)
  · replace b1 : ¬ (1000000000 ≤ x) := fun h => b1 ((zi_ngle (a := x) (b := 1000000000) (by omega) (by omega)).mpr h)
    refine zv_c1 ht rfl rfl (zv_c1 ht rfl rfl ?_)
    refine zv_c1 (st' := [.int 9]) (S' := S) ht rfl rfl ?_
    exact zv_rt ht rfl rfl rfl rfl (h2 b1)

theorem sz2 {d : Nat} {S : zS} (hF : zFin true S) (x : Nat) (m : Int32) (hx : x < 2147483648) {post : Outcome × zS → Prop} (h1 : post (.returned (some (.int 10)), S)) : zEv d 442 16 [.int (-(Int32.ofNat x)), .int 0, .int m, .int 10] [] S post := by
  have ht : ztab 442 = ztb442 := rfl
  refine zv_c1 ht rfl rfl (zv_c1 ht rfl rfl ?_)
  refine zv_br ht rfl rfl rfl (fun _ => ?_) (fun h => absurd (by decide) h)
  refine zv_c1 ht rfl rfl (zv_c1 ht rfl rfl ?_)
  refine zv_c1 (st' := [.int 10]) (S' := S) ht rfl rfl ?_
  exact zv_rt ht rfl rfl rfl rfl h1

section S3
variable {d : Nat} {post : Outcome × zS → Prop}
theorem j_stringSize {S : zS} (hF : zFin true S) (x : Nat) (hx : x < 2147483648) (h : post (.returned (some (.int (Int32.ofNat (dec x).length))), S)) : zCall d 442 [.int (Int32.ofNat x)] S post := by
  have fin : ∀ p, x < 10 ^ (p + 1) → (p = 0 ∨ 10 ^ p ≤ x) → post (.returned (some (.int (Int32.ofNat (p + 1)))), S) := fun p h1 h2 => by rw [← dec_len p x h1 h2]; exact h
  refine sz0 hF x hx (sz11 hF x hx (fun b1 => ?_) (fun b => fin 0 (by omega) (Or.inl rfl)))
  refine sz12 hF x hx (fun b2 => ?_) (fun b => fin 1 (by omega) (Or.inr (by omega)))
  refine sz13 hF x hx (fun b3 => ?_) (fun b => fin 2 (by omega) (Or.inr (by omega)))
  refine sz14 hF x hx (fun b4 => ?_) (fun b => fin 3 (by omega) (Or.inr (by omega)))
  refine sz15 hF x hx (fun b5 => ?_) (fun b => fin 4 (by omega) (Or.inr (by omega)))
  refine sz16 hF x hx (fun b6 => ?_) (fun b => fin 5 (by omega) (Or.inr (by omega)))
  refine sz17 hF x hx (fun b7 => ?_) (fun b => fin 6 (by omega) (Or.inr (by omega)))
  refine sz18 hF x hx (fun b8 => ?_) (fun b => fin 7 (by omega) (Or.inr (by omega)))
  refine sz19 hF x hx (fun b9 => ?_) (fun b => fin 8 (by omega) (Or.inr (by omega)))
  exact sz2 hF x _ hx (fin 9 (by omega) (Or.inr (by omega)))
end S3
/-- the rows of digits -/
def zDig (S : zS) : Prop := (∀ j, j < 100 → gA S 4294968296 j = Int32.ofNat (48 + j / 10) ∧ gA S 4294968297 j = Int32.ofNat (48 + j % 10)) ∧ ztyp S 4294968296 = 121 ∧ ztyp S 4294968297 = 121 ∧ zlen S 4294968296 = 100 ∧ zlen S 4294968297 = 100
theorem gc0 {d : Nat} {S : zS} (hF : zFin true S) (x i v : Nat) (hx : x < 2147483648) (hi : i < 30000) {post : Outcome × zS → Prop} (h1 : zEv d 443 22 [.int (-(Int32.ofNat x)), .retAddr 0, .ref v, .retAddr 0, .retAddr 0, .int (Int32.ofNat i), .int (Int32.ofNat 0)] [] S post) : zCall d 443 [.int (Int32.ofNat x), .int (Int32.ofNat i), .ref v] S post := by
  have ht : ztab 443 = ztb443 := rfl
  show zEv d 443 0 [.int (Int32.ofNat x), .int (Int32.ofNat i), .ref v, .retAddr 0, .retAddr 0, .retAddr 0, .retAddr 0] [] S post
  refine zv_c1 ht rfl rfl ?_
  refine zv_c2 (L' := [.int (Int32.ofNat x), .int (Int32.ofNat i), .ref v, .retAddr 0, .retAddr 0, .int (Int32.ofNat i), .retAddr 0]) ht rfl rfl ?_
  refine zv_c1 ht rfl rfl ?_
  refine zv_br ht rfl rfl rfl (fun b1 => ?_) (fun b1 => (show False from by have hq := b1; have hz : ¬ (0 ≤ x) := fun h => hq ((zi_leE (a := 0) (b := x) rfl rfl (by omega) (by omega)).mpr h); omega).elim)
  refine zv_c1 ht rfl rfl ?_
  refine zv_c2 (L' := [.int (Int32.ofNat x), .int (Int32.ofNat i), .ref v, .retAddr 0, .retAddr 0, .int (Int32.ofNat i), .int 0]) ht rfl rfl ?_
  refine zv_c1 ht rfl rfl ?_
  refine zv_br ht rfl rfl rfl (fun h => absurd h (by decide)) (fun _ => ?_)
  refine zv_c1 ht rfl rfl ?_
  refine zv_c1 (st' := [.int (-(Int32.ofNat x))]) (S' := S) ht rfl rfl ?_
  refine zv_c2 (L' := [.int (-(Int32.ofNat x)), .int (Int32.ofNat i), .ref v, .retAddr 0, .retAddr 0, .int (Int32.ofNat i), .int 0]) ht rfl rfl ?_
  exact zEv.wk (L := [.int (-(Int32.ofNat x)), .retAddr 0, .ref v, .retAddr 0, .retAddr 0, .int (Int32.ofNat i), .int (Int32.ofNat 0)]) (L' := [.int (-(Int32.ofNat x)), .int (Int32.ofNat i), .ref v, .retAddr 0, .retAddr 0, .int (Int32.ofNat i), .int 0]) (And.intro (Or.inl rfl) (And.intro (Or.inr rfl) (And.intro (Or.inl rfl) (And.intro (Or.inl rfl) (And.intro (Or.inl rfl) (And.intro (Or.inl rfl) (And.intro (Or.inl rfl) trivial))))))) h1

theorem gc1 {d : Nat} {S : zS} (hF : zFin true S) (x i v : Nat) (hx : x < 2147483648) (hi : i < 30000) (hvl : i ≤ zlen S v) (hvt : ztyp S v = 101) (hv1 : v < gN S) (hN2 : gN S < 2000000) (hdt : zDig S) (hi2 : 2 ≤ i) (hx1 : 100 ≤ x) {post : Outcome × zS → Prop} (h1 : (x < 100) → (x ≤ 9) → post (.returned (some (.int (Int32.ofNat (i - 1)))), sA S v (i - 1) (Int32.ofNat (48 + x % 10)))) (h2 : (x < 100) → (¬ (x ≤ 9)) → post (.returned (some (.int (Int32.ofNat ((i - 1) - 1)))), sA (sA S v (i - 1) (Int32.ofNat (48 + x % 10))) v ((i - 1) - 1) (Int32.ofNat (48 + x / 10)))) (h3 : (¬ (x < 100)) → zEv d 443 22 [.int (-(Int32.ofNat (x / 100))), .retAddr 0, .ref v, .retAddr 0, .retAddr 0, .int (Int32.ofNat ((i - 1) - 1)), .int (Int32.ofNat 0)] [] (sA (sA S v (i - 1) (Int32.ofNat (48 + (x - ((x / 100) * 100)) % 10))) v ((i - 1) - 1) (Int32.ofNat (48 + (x - ((x / 100) * 100)) / 10))) post) : zEv d 443 22 [.int (-(Int32.ofNat x)), .retAddr 0, .ref v, .retAddr 0, .retAddr 0, .int (Int32.ofNat i), .int 0] [] S post := by
  have ht : ztab 443 = ztb443 := rfl
  refine zv_c1 ht rfl rfl (zv_c1 ht rfl rfl ?_)
  refine zv_br ht rfl rfl rfl (fun b1 => ?_) (fun b1 => ?_)
  · replace b1 : x < 100 := (zi_nglt (a := 100) (b := x) (by omega) (by omega)).mp b1
    refine zv_c1 ht rfl rfl ?_
    refine zv_iinc (L' := [.int (-(Int32.ofNat x)), .retAddr 0, .ref v, .retAddr 0, .retAddr 0, .int (Int32.ofNat (i - 1)), .int 0]) (i := 5) (x := Int32.ofNat (i - 1)) ht rfl rfl (zi_decE (n := i) (c := 1) rfl (by omega) (by decide)) rfl ?_
    refine zv_c1 ht rfl rfl (zv_c1 ht rfl rfl (zv_c1 ht rfl rfl ?_))
    refine zv_e1 (x := Int32.ofNat x) ht rfl rfl Int32.neg_neg ?_
    refine zv_baE (j := x) (x := Int32.ofNat (48 + x % 10)) ht rfl rfl rfl rfl (zi_natE (a := x) rfl (by omega)) ⟨(Or.inr (Or.inr hdt.2.2.1)), zi_inL (a := x) (m := 100) hdt.2.2.2.2 rfl (by omega) (by omega)⟩ ((hdt.1 x (by omega)).2) ?_
    refine zv_bs (j := i - 1) (x := Int32.ofNat (48 + x % 10)) ht rfl rfl rfl rfl (zi_natE (a := i - 1) rfl (by omega)) ⟨(Or.inl ⟨hvt, (zi_i2b7 (by omega))⟩), zi_inL (a := i - 1) (m := zlen S v) rfl rfl (by omega) (by omega)⟩ ?_
    refine zv_c1 ht rfl rfl (zv_c1 ht rfl rfl ?_)
    refine zv_br ht rfl rfl rfl (fun b2 => ?_) (fun b2 => ?_)
    · replace b2 : x ≤ 9 := (zi_ngle (a := 9) (b := x) (by omega) (by omega)).mp b2
      refine zv_c1 ht rfl rfl ?_
      refine zv_br ht rfl rfl rfl (fun _ => ?_) (fun h => absurd (by decide) h)
      refine zv_c1 ht rfl rfl ?_
      exact zv_rt ht rfl rfl rfl rfl (h1 b1 b2)
    · replace b2 : ¬ (x ≤ 9) := fun h => b2 ((zi_ngle (a := 9) (b := x) (by omega) (by omega)).mpr h)
      refine zv_c1 ht rfl rfl ?_
      refine zv_iinc (L' := [.int (-(Int32.ofNat x)), .retAddr 0, .ref v, .retAddr 0, .retAddr 0, .int (Int32.ofNat ((i - 1) - 1)), .int 0]) (i := 5) (x := Int32.ofNat ((i - 1) - 1)) ht rfl rfl (zi_decE (n := i - 1) (c := 1) rfl (by omega) (by decide)) rfl ?_
      refine zv_c1 ht rfl rfl (zv_c1 ht rfl rfl (zv_c1 ht rfl rfl ?_))
      refine zv_e1 (x := Int32.ofNat x) ht rfl rfl Int32.neg_neg ?_
      refine zv_baE (j := x) (x := Int32.ofNat (48 + x / 10)) ht rfl rfl rfl rfl (zi_natE (a := x) rfl (by omega)) ⟨(Or.inr (Or.inr hdt.2.1)), zi_inL (a := x) (m := 100) hdt.2.2.2.1 rfl (by omega) (by omega)⟩ (Eq.trans (gA_sA_ne (by omega)) ((hdt.1 x (by omega)).1)) ?_
      refine zv_bs (j := (i - 1) - 1) (x := Int32.ofNat (48 + x / 10)) ht rfl rfl rfl rfl (zi_natE (a := (i - 1) - 1) rfl (by omega)) ⟨(Or.inl ⟨hvt, (zi_i2b7 (by omega))⟩), zi_inL (a := (i - 1) - 1) (m := zlen S v) rfl rfl (by omega) (by omega)⟩ ?_
      refine zv_c1 ht rfl rfl ?_
      refine zv_br ht rfl rfl rfl (fun _ => ?_) (fun h => absurd (by decide) h)
      refine zv_c1 ht rfl rfl ?_
      exact zv_rt ht rfl rfl rfl rfl (h2 b1 b2)
  · replace b1 : ¬ (x < 100) := fun h => b1 ((zi_nglt (a := 100) (b := x) (by omega) (by omega)).mpr h)
    refine zv_c1 ht rfl rfl (zv_c1 ht rfl rfl ?_)
    refine zv_ei (x := -(Int32.ofNat (x / 100))) ht rfl rfl (by decide) (zi_ngDiv (a := x) (c := 100) (by omega) (by decide)) ?_
    refine zv_c2 (L' := [.int (-(Int32.ofNat x)), .retAddr 0, .ref v, .int (-(Int32.ofNat (x / 100))), .retAddr 0, .int (Int32.ofNat i), .int 0]) ht rfl rfl ?_
    refine zv_c1 ht rfl rfl (zv_c1 ht rfl rfl ?_)
    refine zv_e1 (x := -(Int32.ofNat ((x / 100) * 100))) ht rfl rfl (zi_ngMul (a := x / 100) (c := 100)) ?_
    refine zv_c1 ht rfl rfl ?_
    refine zv_e1 (x := Int32.ofNat (x - ((x / 100) * 100))) ht rfl rfl (zi_ngSub (a := (x / 100) * 100) (b := x) (by omega)) ?_
    refine zv_c2 (L' := [.int (-(Int32.ofNat x)), .retAddr 0, .ref v, .int (-(Int32.ofNat (x / 100))), .int (Int32.ofNat (x - ((x / 100) * 100))), .int (Int32.ofNat i), .int 0]) ht rfl rfl ?_
    refine zv_c1 ht rfl rfl ?_
    refine zv_c2 (L' := [.int (-(Int32.ofNat (x / 100))), .retAddr 0, .ref v, .int (-(Int32.ofNat (x / 100))), .int (Int32.ofNat (x - ((x / 100) * 100))), .int (Int32.ofNat i), .int 0]) ht rfl rfl ?_
    refine zv_c1 ht rfl rfl ?_
    refine zv_iinc (L' := [.int (-(Int32.ofNat (x / 100))), .retAddr 0, .ref v, .int (-(Int32.ofNat (x / 100))), .int (Int32.ofNat (x - ((x / 100) * 100))), .int (Int32.ofNat (i - 1)), .int 0]) (i := 5) (x := Int32.ofNat (i - 1)) ht rfl rfl (zi_decE (n := i) (c := 1) rfl (by omega) (by decide)) rfl ?_
    refine zv_c1 ht rfl rfl (zv_c1 ht rfl rfl (zv_c1 ht rfl rfl ?_))
    refine zv_baE (j := x - ((x / 100) * 100)) (x := Int32.ofNat (48 + (x - ((x / 100) * 100)) % 10)) ht rfl rfl rfl rfl (zi_natE (a := x - ((x / 100) * 100)) rfl (by omega)) ⟨(Or.inr (Or.inr hdt.2.2.1)), zi_inL (a := x - ((x / 100) * 100)) (m := 100) hdt.2.2.2.2 rfl (by omega) (by omega)⟩ ((hdt.1 (x - ((x / 100) * 100)) (by omega)).2) ?_
    refine zv_bs (j := i - 1) (x := Int32.ofNat (48 + (x - ((x / 100) * 100)) % 10)) ht rfl rfl rfl rfl (zi_natE (a := i - 1) rfl (by omega)) ⟨(Or.inl ⟨hvt, (zi_i2b7 (by omega))⟩), zi_inL (a := i - 1) (m := zlen S v) rfl rfl (by omega) (by omega)⟩ ?_
    refine zv_c1 ht rfl rfl ?_
    refine zv_iinc (L' := [.int (-(Int32.ofNat (x / 100))), .retAddr 0, .ref v, .int (-(Int32.ofNat (x / 100))), .int (Int32.ofNat (x - ((x / 100) * 100))), .int (Int32.ofNat ((i - 1) - 1)), .int 0]) (i := 5) (x := Int32.ofNat ((i - 1) - 1)) ht rfl rfl (zi_decE (n := i - 1) (c := 1) rfl (by omega) (by decide)) rfl ?_
    refine zv_c1 ht rfl rfl (zv_c1 ht rfl rfl (zv_c1 ht rfl rfl ?_))
    refine zv_baE (j := x - ((x / 100) * 100)) (x := Int32.ofNat (48 + (x - ((x / 100) * 100)) / 10)) ht rfl rfl rfl rfl (zi_natE (a := x - ((x / 100) * 100)) rfl (by omega)) ⟨(Or.inr (Or.inr hdt.2.1)), zi_inL (a := x - ((x / 100) * 100)) (m := 100) hdt.2.2.2.1 rfl (by omega) (by omega)⟩ (Eq.trans (gA_sA_ne (by omega)) ((hdt.1 (x - ((x / 100) * 100)) (by omega)).1)) ?_
    refine zv_bs (j := (i - 1) - 1) (x := Int32.ofNat (48 + (x - ((x / 100) * 100)) / 10)) ht rfl rfl rfl rfl (zi_natE (a := (i - 1) - 1) rfl (by omega)) ⟨(Or.inl ⟨hvt, (zi_i2b7 (by omega))⟩), zi_inL (a := (i - 1) - 1) (m := zlen S v) rfl rfl (by omega) (by omega)⟩ ?_
    refine zv_c1 ht rfl rfl ?_
    exact zEv.wk (L := [.int (-(Int32.ofNat (x / 100))), .retAddr 0, .ref v, .retAddr 0, .retAddr 0, .int (Int32.ofNat ((i - 1) - 1)), .int (Int32.ofNat 0)]) (L' := [.int (-(Int32.ofNat (x / 100))), .retAddr 0, .ref v, .int (-(Int32.ofNat (x / 100))), .int (Int32.ofNat (x - ((x / 100) * 100))), .int (Int32.ofNat ((i - 1) - 1)), .int 0]) (And.intro (Or.inl rfl) (And.intro (Or.inl rfl) (And.intro (Or.inl rfl) (And.intro (Or.inr rfl) (And.intro (Or.inr rfl) (And.intro (Or.inl rfl) (And.intro (Or.inl rfl) trivial))))))) (h3 b1)

theorem gc2 {d : Nat} {S : zS} (hF : zFin true S) (x i v : Nat) (hx : x < 2147483648) (hi : i < 30000) (hvl : i ≤ zlen S v) (hvt : ztyp S v = 101) (hv1 : v < gN S) (hN2 : gN S < 2000000) (hdt : zDig S) (hi2 : 2 ≤ i) (hx1 : x < 100) (hx2 : 10 ≤ x) {post : Outcome × zS → Prop} (h1 : (x < 100) → (x ≤ 9) → post (.returned (some (.int (Int32.ofNat (i - 1)))), sA S v (i - 1) (Int32.ofNat (48 + x % 10)))) (h2 : (x < 100) → (¬ (x ≤ 9)) → post (.returned (some (.int (Int32.ofNat ((i - 1) - 1)))), sA (sA S v (i - 1) (Int32.ofNat (48 + x % 10))) v ((i - 1) - 1) (Int32.ofNat (48 + x / 10)))) (h3 : (¬ (x < 100)) → zEv d 443 22 [.int (-(Int32.ofNat (x / 100))), .retAddr 0, .ref v, .retAddr 0, .retAddr 0, .int (Int32.ofNat ((i - 1) - 1)), .int (Int32.ofNat 0)] [] (sA (sA S v (i - 1) (Int32.ofNat (48 + (x - ((x / 100) * 100)) % 10))) v ((i - 1) - 1) (Int32.ofNat (48 + (x - ((x / 100) * 100)) / 10))) post) : zEv d 443 22 [.int (-(Int32.ofNat x)), .retAddr 0, .ref v, .retAddr 0, .retAddr 0, .int (Int32.ofNat i), .int 0] [] S post := by
  have ht : ztab 443 = ztb443 := rfl
  refine zv_c1 ht rfl rfl (zv_c1 ht rfl rfl ?_)
  refine zv_br ht rfl rfl rfl (fun b1 => ?_) (fun b1 => ?_)
  · replace b1 : x < 100 := (zi_nglt (a := 100) (b := x) (by omega) (by omega)).mp b1
    refine zv_c1 ht rfl rfl ?_
    refine zv_iinc (L' := [.int (-(Int32.ofNat x)), .retAddr 0, .ref v, .retAddr 0, .retAddr 0, .int (Int32.ofNat (i - 1)), .int 0]) (i := 5) (x := Int32.ofNat (i - 1)) ht rfl rfl (zi_decE (n := i) (c := 1) rfl (by omega) (by decide)) rfl ?_
    refine zv_c1 ht rfl rfl (zv_c1 ht rfl rfl (zv_c1 ht rfl rfl ?_))
    refine zv_e1 (x := Int32.ofNat x) ht rfl rfl Int32.neg_neg ?_
    refine zv_baE (j := x) (x := Int32.ofNat (48 + x % 10)) ht rfl rfl rfl rfl (zi_natE (a := x) rfl (by omega)) ⟨(Or.inr (Or.inr hdt.2.2.1)), zi_inL (a := x) (m := 100) hdt.2.2.2.2 rfl (by omega) (by omega)⟩ ((hdt.1 x (by omega)).2) ?_
    refine zv_bs (j := i - 1) (x := Int32.ofNat (48 + x % 10)) ht rfl rfl rfl rfl (zi_natE (a := i - 1) rfl (by omega)) ⟨(Or.inl ⟨hvt, (zi_i2b7 (by omega))⟩), zi_inL (a := i - 1) (m := zlen S v) rfl rfl (by omega) (by omega)⟩ ?_
    refine zv_c1 ht rfl rfl (zv_c1 ht rfl rfl ?_)
    refine zv_br ht rfl rfl rfl (fun b2 => ?_) (fun b2 => ?_)
    · replace b2 : x ≤ 9 := (zi_ngle (a := 9) (b := x) (by omega) (by omega)).mp b2
      refine zv_c1 ht rfl rfl ?_
      refine zv_br ht rfl rfl rfl (fun _ => ?_) (fun h => absurd (by decide) h)
      refine zv_c1 ht rfl rfl ?_
      exact zv_rt ht rfl rfl rfl rfl (h1 b1 b2)
    · replace b2 : ¬ (x ≤ 9) := fun h => b2 ((zi_ngle (a := 9) (b := x) (by omega) (by omega)).mpr h)
      refine zv_c1 ht rfl rfl ?_
      refine zv_iinc (L' := [.int (-(Int32.ofNat x)), .retAddr 0, .ref v, .retAddr 0, .retAddr 0, .int (Int32.ofNat ((i - 1) - 1)), .int 0]) (i := 5) (x := Int32.ofNat ((i - 1) - 1)) ht rfl rfl (zi_decE (n := i - 1) (c := 1) rfl (by omega) (by decide)) rfl ?_
      refine zv_c1 ht rfl rfl (zv_c1 ht rfl rfl (zv_c1 ht rfl rfl ?_))
      refine zv_e1 (x := Int32.ofNat x) ht rfl rfl Int32.neg_neg ?_
      refine zv_baE (j := x) (x := Int32.ofNat (48 + x / 10)) ht rfl rfl rfl rfl (zi_natE (a := x) rfl (by omega)) ⟨(Or.inr (Or.inr hdt.2.1)), zi_inL (a := x) (m := 100) hdt.2.2.2.1 rfl (by omega) (by omega)⟩ (Eq.trans (gA_sA_ne (by omega)) ((hdt.1 x (by omega)).1)) ?_
      refine zv_bs (j := (i - 1) - 1) (x := Int32.ofNat (48 + x / 10)) ht rfl rfl rfl rfl (zi_natE (a := (i - 1) - 1) rfl (by omega)) ⟨(Or.inl ⟨hvt, (zi_i2b7 (by omega))⟩), zi_inL (a := (i - 1) - 1) (m := zlen S v) rfl rfl (by omega) (by omega)⟩ ?_
      refine zv_c1 ht rfl rfl ?_
      refine zv_br ht rfl rfl rfl (fun _ => ?_) (fun h => absurd (by decide) h)
      refine zv_c1 ht rfl rfl ?_
      exact zv_rt ht rfl rfl rfl rfl (h2 b1 b2)
  · replace b1 : ¬ (x < 100) := fun h => b1 ((zi_nglt (a := 100) (b := x) (by omega) (by omega)).mpr h)
    refine zv_c1 ht rfl rfl (zv_c1 ht rfl rfl ?_)
    refine zv_ei (x := -(Int32.ofNat (x / 100))) ht rfl rfl (by decide) (zi_ngDiv (a := x) (c := 100) (by omega) (by decide)) ?_
    refine zv_c2 (L' := [.int (-(Int32.ofNat x)), .retAddr 0, .ref v, .int (-(Int32.ofNat (x / 100))), .retAddr 0, .int (Int32.ofNat i), .int 0]) ht rfl rfl ?_
    refine zv_c1 ht rfl rfl (zv_c1 ht rfl rfl ?_)
    refine zv_e1 (x := -(Int32.ofNat ((x / 100) * 100))) ht rfl rfl (zi_ngMul (a := x / 100) (c := 100)) ?_
    refine zv_c1 ht rfl rfl ?_
    refine zv_e1 (x := Int32.ofNat (x - ((x / 100) * 100))) ht rfl rfl (zi_ngSub (a := (x / 100) * 100) (b := x) (by omega)) ?_
    refine zv_c2 (L' := [.int (-(Int32.ofNat x)), .retAddr 0, .ref v, .int (-(Int32.ofNat (x / 100))), .int (Int32.ofNat (x - ((x / 100) * 100))), .int (Int32.ofNat i), .int 0]) ht rfl rfl ?_
    refine zv_c1 ht rfl rfl ?_
    refine zv_c2 (L' := [.int (-(Int32.ofNat (x / 100))), .retAddr 0, .ref v, .int (-(Int32.ofNat (x / 100))), .int (Int32.ofNat (x - ((x / 100) * 100))), .int (Int32.ofNat i), .int 0]) ht rfl rfl ?_
    refine zv_c1 ht rfl rfl ?_
    refine zv_iinc (L' := [.int (-(Int32.ofNat (x / 100))), .retAddr 0, .ref v, .int (-(Int32.ofNat (x / 100))), .int (Int32.ofNat (x - ((x / 100) * 100))), .int (Int32.ofNat (i - 1)), .int 0]) (i := 5) (x := Int32.ofNat (i - 1)) ht rfl rfl (zi_decE (n := i) (c := 1) rfl (by omega) (by decide)) rfl ?_
    refine zv_c1 ht rfl rfl (zv_c1 ht rfl rfl (zv_c1 ht rfl rfl ?_))
    refine zv_baE (j := x - ((x / 100) * 100)) (x := Int32.ofNat (48 + (x - ((x / 100) * 100)) % 10)) ht rfl rfl rfl rfl (zi_natE (a := x - ((x / 100) * 100)) rfl (by omega)) ⟨(Or.inr (Or.inr hdt.2.2.1)), zi_inL (a := x - ((x / 100) * 100)) (m := 100) hdt.2.2.2.2 rfl (by omega) (by omega)⟩ ((hdt.1 (x - ((x / 100) * 100)) (by omega)).2) ?_
    refine zv_bs (j := i - 1) (x := Int32.ofNat (48 + (x - ((x / 100) * 100)) % 10)) ht rfl rfl rfl rfl (zi_natE (a := i - 1) rfl (by omega)) ⟨(Or.inl ⟨hvt, (zi_i2b7 (by omega))⟩), zi_inL (a := i - 1) (m := zlen S v) rfl rfl (by omega) (by omega)⟩ ?_
    refine zv_c1 ht rfl rfl ?_
    refine zv_iinc (L' := [.int (-(Int32.ofNat (x / 100))), .retAddr 0, .ref v, .int (-(Int32.ofNat (x / 100))), .int (Int32.ofNat (x - ((x / 100) * 100))), .int (Int32.ofNat ((i - 1) - 1)), .int 0]) (i := 5) (x := Int32.ofNat ((i - 1) - 1)) ht rfl rfl (zi_decE (n := i - 1) (c := 1) rfl (by omega) (by decide)) rfl ?_
    refine zv_c1 ht rfl rfl (zv_c1 ht rfl rfl (zv_c1 ht rfl rfl ?_))
    refine zv_baE (j := x - ((x / 100) * 100)) (x := Int32.ofNat (48 + (x - ((x / 100) * 100)) / 10)) ht rfl rfl rfl rfl (zi_natE (a := x - ((x / 100) * 100)) rfl (by omega)) ⟨(Or.inr (Or.inr hdt.2.1)), zi_inL (a := x - ((x / 100) * 100)) (m := 100) hdt.2.2.2.1 rfl (by omega) (by omega)⟩ (Eq.trans (gA_sA_ne (by omega)) ((hdt.1 (x - ((x / 100) * 100)) (by omega)).1)) ?_
    refine zv_bs (j := (i - 1) - 1) (x := Int32.ofNat (48 + (x - ((x / 100) * 100)) / 10)) ht rfl rfl rfl rfl (zi_natE (a := (i - 1) - 1) rfl (by omega)) ⟨(Or.inl ⟨hvt, (zi_i2b7 (by omega))⟩), zi_inL (a := (i - 1) - 1) (m := zlen S v) rfl rfl (by omega) (by omega)⟩ ?_
    refine zv_c1 ht rfl rfl ?_
    exact zEv.wk (L := [.int (-(Int32.ofNat (x / 100))), .retAddr 0, .ref v, .retAddr 0, .retAddr 0, .int (Int32.ofNat ((i - 1) - 1)), .int (Int32.ofNat 0)]) (L' := [.int (-(Int32.ofNat (x / 100))), .retAddr 0, .ref v, .int (-(Int32.ofNat (x / 100))), .int (Int32.ofNat (x - ((x / 100) * 100))), .int (Int32.ofNat ((i - 1) - 1)), .int 0]) (And.intro (Or.inl rfl) (And.intro (Or.inl rfl) (And.intro (Or.inl rfl) (And.intro (Or.inr rfl) (And.intro (Or.inr rfl) (And.intro (Or.inl rfl) (And.intro (Or.inl rfl) trivial))))))) (h3 b1)

theorem gc3 {d : Nat} {S : zS} (hF : zFin true S) (x i v : Nat) (hx : x < 2147483648) (hi : i < 30000) (hvl : i ≤ zlen S v) (hvt : ztyp S v = 101) (hv1 : v < gN S) (hN2 : gN S < 2000000) (hdt : zDig S) (hi2 : 1 ≤ i) (hx1 : x < 10) {post : Outcome × zS → Prop} (h1 : (x < 100) → (x ≤ 9) → post (.returned (some (.int (Int32.ofNat (i - 1)))), sA S v (i - 1) (Int32.ofNat (48 + x % 10)))) (h2 : (x < 100) → (¬ (x ≤ 9)) → post (.returned (some (.int (Int32.ofNat ((i - 1) - 1)))), sA (sA S v (i - 1) (Int32.ofNat (48 + x % 10))) v ((i - 1) - 1) (Int32.ofNat (48 + x / 10)))) (h3 : (¬ (x < 100)) → zEv d 443 22 [.int (-(Int32.ofNat (x / 100))), .retAddr 0, .ref v, .retAddr 0, .retAddr 0, .int (Int32.ofNat ((i - 1) - 1)), .int (Int32.ofNat 0)] [] (sA (sA S v (i - 1) (Int32.ofNat (48 + (x - ((x / 100) * 100)) % 10))) v ((i - 1) - 1) (Int32.ofNat (48 + (x - ((x / 100) * 100)) / 10))) post) : zEv d 443 22 [.int (-(Int32.ofNat x)), .retAddr 0, .ref v, .retAddr 0, .retAddr 0, .int (Int32.ofNat i), .int 0] [] S post := by
  have ht : ztab 443 = ztb443 := rfl
  refine zv_c1 ht rfl rfl (zv_c1 ht rfl rfl ?_)
  refine zv_br ht rfl rfl rfl (fun b1 => ?_) (fun b1 => ?_)
  · replace b1 : x < 100 := (zi_nglt (a := 100) (b := x) (by omega) (by omega)).mp b1
    refine zv_c1 ht rfl rfl ?_
    refine zv_iinc (L' := [.int (-(Int32.ofNat x)), .retAddr 0, .ref v, .retAddr 0, .retAddr 0, .int (Int32.ofNat (i - 1)), .int 0]) (i := 5) (x := Int32.ofNat (i - 1)) ht rfl rfl (zi_decE (n := i) (c := 1) rfl (by omega) (by decide)) rfl ?_
    refine zv_c1 ht rfl rfl (zv_c1 ht rfl rfl (zv_c1 ht rfl rfl ?_))
    refine zv_e1 (x := Int32.ofNat x) ht rfl rfl Int32.neg_neg ?_
    refine zv_baE (j := x) (x := Int32.ofNat (48 + x % 10)) ht rfl rfl rfl rfl (zi_natE (a := x) rfl (by omega)) ⟨(Or.inr (Or.inr hdt.2.2.1)), zi_inL (a := x) (m := 100) hdt.2.2.2.2 rfl (by omega) (by omega)⟩ ((hdt.1 x (by omega)).2) ?_
    refine zv_bs (j := i - 1) (x := Int32.ofNat (48 + x % 10)) ht rfl rfl rfl rfl (zi_natE (a := i - 1) rfl (by omega)) ⟨(Or.inl ⟨hvt, (zi_i2b7 (by omega))⟩), zi_inL (a := i - 1) (m := zlen S v) rfl rfl (by omega) (by omega)⟩ ?_
    refine zv_c1 ht rfl rfl (zv_c1 ht rfl rfl ?_)
    refine zv_br ht rfl rfl rfl (fun b2 => ?_) (fun b2 => ?_)
    · replace b2 : x ≤ 9 := (zi_ngle (a := 9) (b := x) (by omega) (by omega)).mp b2
      refine zv_c1 ht rfl rfl ?_
      refine zv_br ht rfl rfl rfl (fun _ => ?_) (fun h => absurd (by decide) h)
      refine zv_c1 ht rfl rfl ?_
      exact zv_rt ht rfl rfl rfl rfl (h1 b1 b2)
    · replace b2 : ¬ (x ≤ 9) := fun h => b2 ((zi_ngle (a := 9) (b := x) (by omega) (by omega)).mpr h)
      refine zv_c1 ht rfl rfl ?_
      refine zv_iinc (L' := [.int (-(Int32.ofNat x)), .retAddr 0, .ref v, .retAddr 0, .retAddr 0, .int (Int32.ofNat ((i - 1) - 1)), .int 0]) (i := 5) (x := Int32.ofNat ((i - 1) - 1)) ht rfl rfl (zi_decE (n := i - 1) (c := 1) rfl (by omega) (by decide)) rfl ?_
      refine zv_c1 ht rfl rfl (zv_c1 ht rfl rfl (zv_c1 ht rfl rfl ?_))
      refine zv_e1 (x := Int32.ofNat x) ht rfl rfl Int32.neg_neg ?_
      refine zv_baE (j := x) (x := Int32.ofNat (48 + x / 10)) ht rfl rfl rfl rfl (zi_natE (a := x) rfl (by omega)) ⟨(Or.inr (Or.inr hdt.2.1)), zi_inL (a := x) (m := 100) hdt.2.2.2.1 rfl (by omega) (by omega)⟩ (Eq.trans (gA_sA_ne (by omega)) ((hdt.1 x (by omega)).1)) ?_
      refine zv_bs (j := (i - 1) - 1) (x := Int32.ofNat (48 + x / 10)) ht rfl rfl rfl rfl (zi_natE (a := (i - 1) - 1) rfl (by omega)) ⟨(Or.inl ⟨hvt, (zi_i2b7 (by omega))⟩), zi_inL (a := (i - 1) - 1) (m := zlen S v) rfl rfl (by omega) (by omega)⟩ ?_
      refine zv_c1 ht rfl rfl ?_
      refine zv_br ht rfl rfl rfl (fun _ => ?_) (fun h => absurd (by decide) h)
      refine zv_c1 ht rfl rfl ?_
      exact zv_rt ht rfl rfl rfl rfl (h2 b1 b2)
  · replace b1 : ¬ (x < 100) := fun h => b1 ((zi_nglt (a := 100) (b := x) (by omega) (by omega)).mpr h)
    refine zv_c1 ht rfl rfl (zv_c1 ht rfl rfl ?_)
    refine zv_ei (x := -(Int32.ofNat (x / 100))) ht rfl rfl (by decide) (zi_ngDiv (a := x) (c := 100) (by omega) (by decide)) ?_
    refine zv_c2 (L' := [.int (-(Int32.ofNat x)), .retAddr 0, .ref v, .int (-(Int32.ofNat (x / 100))), .retAddr 0, .int (Int32.ofNat i), .int 0]) ht rfl rfl ?_
    refine zv_c1 ht rfl rfl (zv_c1 ht rfl rfl ?_)
    refine zv_e1 (x := -(Int32.ofNat ((x / 100) * 100))) ht rfl rfl (zi_ngMul (a := x / 100) (c := 100)) ?_
    refine zv_c1 ht rfl rfl ?_
    refine zv_e1 (x := Int32.ofNat (x - ((x / 100) * 100))) ht rfl rfl (zi_ngSub (a := (x / 100) * 100) (b := x) (by omega)) ?_
    refine zv_c2 (L' := [.int (-(Int32.ofNat x)), .retAddr 0, .ref v, .int (-(Int32.ofNat (x / 100))), .int (Int32.ofNat (x - ((x / 100) * 100))), .int (Int32.ofNat i), .int 0]) ht rfl rfl ?_
    refine zv_c1 ht rfl rfl ?_
    refine zv_c2 (L' := [.int (-(Int32.ofNat (x / 100))), .retAddr 0, .ref v, .int (-(Int32.ofNat (x / 100))), .int (Int32.ofNat (x - ((x / 100) * 100))), .int (Int32.ofNat i), .int 0]) ht rfl rfl ?_
    refine zv_c1 ht rfl rfl ?_
    refine zv_iinc (L' := [.int (-(Int32.ofNat (x / 100))), .retAddr 0, .ref v, .int (-(Int32.ofNat (x / 100))), .int (Int32.ofNat (x - ((x / 100) * 100))), .int (Int32.ofNat (i - 1)), .int 0]) (i := 5) (x := Int32.ofNat (i - 1)) ht rfl rfl (zi_decE (n := i) (c := 1) rfl (by omega) (by decide)) rfl ?_
    refine zv_c1 ht rfl rfl (zv_c1 ht rfl rfl (zv_c1 ht rfl rfl ?_))
    refine zv_baE (j := x - ((x / 100) * 100)) (x := Int32.ofNat (48 + (x - ((x / 100) * 100)) % 10)) ht rfl rfl rfl rfl (zi_natE (a := x - ((x / 100) * 100)) rfl (by omega)) ⟨(Or.inr (Or.inr hdt.2.2.1)), zi_inL (a := x - ((x / 100) * 100)) (m := 100) hdt.2.2.2.2 rfl (by omega) (by omega)⟩ ((hdt.1 (x - ((x / 100) * 100)) (by omega)).2) ?_
    refine zv_bs (j := i - 1) (x := Int32.ofNat (48 + (x - ((x / 100) * 100)) % 10)) ht rfl rfl rfl rfl (zi_natE (a := i - 1) rfl (by omega)) ⟨(Or.inl ⟨hvt, (zi_i2b7 (by omega))⟩), zi_inL (a := i - 1) (m := zlen S v) rfl rfl (by omega) (by omega)⟩ ?_
    refine zv_c1 ht rfl rfl ?_
    refine zv_iinc (L' := [.int (-(Int32.ofNat (x / 100))), .retAddr 0, .ref v, .int (-(Int32.ofNat (x / 100))), .int (Int32.ofNat (x - ((x / 100) * 100))), .int (Int32.ofNat ((i - 1) - 1)), .int 0]) (i := 5) (x := Int32.ofNat ((i - 1) - 1)) ht rfl rfl (zi_decE (n := i - 1) (c := 1) rfl (by omega) (by decide)) rfl ?_
    refine zv_c1 ht rfl rfl (zv_c1 ht rfl rfl (zv_c1 ht rfl rfl ?_))
    refine zv_baE (j := x - ((x / 100) * 100)) (x := Int32.ofNat (48 + (x - ((x / 100) * 100)) / 10)) ht rfl rfl rfl rfl (zi_natE (a := x - ((x / 100) * 100)) rfl (by omega)) ⟨(Or.inr (Or.inr hdt.2.1)), zi_inL (a := x - ((x / 100) * 100)) (m := 100) hdt.2.2.2.1 rfl (by omega) (by omega)⟩ (Eq.trans (gA_sA_ne (by omega)) ((hdt.1 (x - ((x / 100) * 100)) (by omega)).1)) ?_
    refine zv_bs (j := (i - 1) - 1) (x := Int32.ofNat (48 + (x - ((x / 100) * 100)) / 10)) ht rfl rfl rfl rfl (zi_natE (a := (i - 1) - 1) rfl (by omega)) ⟨(Or.inl ⟨hvt, (zi_i2b7 (by omega))⟩), zi_inL (a := (i - 1) - 1) (m := zlen S v) rfl rfl (by omega) (by omega)⟩ ?_
    refine zv_c1 ht rfl rfl ?_
    exact zEv.wk (L := [.int (-(Int32.ofNat (x / 100))), .retAddr 0, .ref v, .retAddr 0, .retAddr 0, .int (Int32.ofNat ((i - 1) - 1)), .int (Int32.ofNat 0)]) (L' := [.int (-(Int32.ofNat (x / 100))), .retAddr 0, .ref v, .int (-(Int32.ofNat (x / 100))), .int (Int32.ofNat (x - ((x / 100) * 100))), .int (Int32.ofNat ((i - 1) - 1)), .int 0]) (And.intro (Or.inl rfl) (And.intro (Or.inl rfl) (And.intro (Or.inl rfl) (And.intro (Or.inr rfl) (And.intro (Or.inr rfl) (And.intro (Or.inl rfl) (And.intro (Or.inl rfl) trivial))))))) (h3 b1)

section S3b
variable {d : Nat} {post : Outcome × zS → Prop}
theorem zDig.k {S S' : zS} {as : List Nat} (h : zDig S) (k : zTK [] as S S') (ha : ∀ a ∈ as, a < zLB) : zDig S' := by
  obtain ⟨h1, h2, h3, h4, h5⟩ := h
  have n1 : 4294968296 ∉ as := fun x => absurd (ha _ x) (by decide)
  have n2 : 4294968297 ∉ as := fun x => absurd (ha _ x) (by decide)
  exact ⟨fun j hj => ⟨(k.A n1).trans (h1 j hj).1, (k.A n2).trans (h1 j hj).2⟩, (k.ty _).1.trans h2, (k.ty _).1.trans h3, (k.ty _).2.trans h4, (k.ty _).2.trans h5⟩
theorem j_getCharsL {v : Nat} (hv : v < 2000000) : ∀ (x : Nat), x < 2147483648 → ∀ (i : Nat) (S : zS), zFin true S → zDig S → v < gN S → gN S < 2000000 → ztyp S v = 101 → (dec x).length ≤ i → i < 30000 → i ≤ zlen S v →
    (∀ S', zTK [] [v] S S' → (∀ j, j < (dec x).length → gA S' v (i - (dec x).length + j) = Int32.ofNat ((dec x).getD j 0)) → (∀ j, j < i - (dec x).length ∨ i ≤ j → gA S' v j = gA S v j) → post (.returned (some (.int (Int32.ofNat (i - (dec x).length)))), S')) →
    zEv d 443 22 [.int (-(Int32.ofNat x)), .retAddr 0, .ref v, .retAddr 0, .retAddr 0, .int (Int32.ofNat i), .int (Int32.ofNat 0)] [] S post := by
  intro x
  induction x using Nat.strongRecOn with
  | ind x ih =>
    intro hx i S hF hdt hv1 hN2 hvt hl hi hvl h
    have hLB : zLB = 4294967296 := rfl
    by_cases c1 : x < 10
    · have hd1 : dec x = [48 + x] := dec_lt c1
      have hd2 : (dec x).length = 1 := by rw [hd1]; rfl
      refine gc3 hF x i v hx hi hvl hvt hv1 hN2 hdt (by omega) c1 (fun _ _ => ?_) (fun _ b => absurd (by omega) b) (fun b => absurd (by omega) b)
      rw [hd2] at h
      refine h _ (zTK_sA (by simp)) (fun j hj => ?_) (fun j hj => gA_sA_nj (by omega))
      have e : j = 0 := by omega
      subst e
      rw [hd1, Nat.add_zero, Nat.mod_eq_of_lt c1]
      exact gA_sA_at
    · by_cases c2 : x < 100
      · have hd1 : dec x = [48 + x / 10, 48 + x % 10] := by rw [dec_ge (by omega), dec_lt (by omega)]; rfl
        have hd2 : (dec x).length = 2 := by rw [hd1]; rfl
        refine gc2 hF x i v hx hi hvl hvt hv1 hN2 hdt (by omega) c2 (by omega) (fun _ b => absurd b (by omega)) (fun _ _ => ?_) (fun b => absurd (by omega) b)
        rw [hd2] at h
        refine h _ ((zTK_sA (by simp)).tr (zTK_sA (by simp))) (fun j hj => ?_) (fun j hj => (gA_sA_nj (by omega)).trans (gA_sA_nj (by omega)))
        rw [hd1]
        have : j = 0 ∨ j = 1 := by omega
        rcases this with rfl | rfl
        · exact gA_sA_at
        · refine (gA_sA_nj (by omega)).trans ?_
          rw [show i - 2 + 1 = i - 1 from by omega]
          exact gA_sA_at
      · have hd1 : dec x = dec (x / 100) ++ [48 + x / 10 % 10, 48 + x % 10] := by
          rw [dec_ge (by omega), dec_ge (n := x / 10) (by omega), Nat.div_div_eq_div_mul, List.append_assoc]
          rfl
        have hd2 : (dec x).length = (dec (x / 100)).length + 2 := by rw [hd1]; simp
        have hp := dec_pos (x / 100)
        refine gc1 hF x i v hx hi hvl hvt hv1 hN2 hdt (by omega) (by omega) (fun b => absurd b (by omega)) (fun b => absurd b (by omega)) (fun _ => ?_)
        have k1 : zTK [] [v] S (sA (sA S v (i - 1) (Int32.ofNat (48 + (x - ((x / 100) * 100)) % 10))) v ((i - 1) - 1) (Int32.ofNat (48 + (x - ((x / 100) * 100)) / 10))) := (zTK_sA (by simp)).tr (zTK_sA (by simp))
        refine ih (x / 100) (by omega) (by omega) ((i - 1) - 1) _ hF (hdt.k k1 (by simp; omega)) hv1 hN2 hvt (by omega) (by omega) (by show _ ≤ zlen S v; omega) (fun S' k2 e2 o2 => ?_)
        have q1 : i - 1 - 1 - (dec (x / 100)).length = i - (dec x).length := by omega
        rw [q1] at e2 o2 ⊢
        refine h S' (k1.tr k2) (fun j hj => ?_) (fun j hj => ?_)
        · have hg : (dec x).getD j 0 = if j < (dec (x / 100)).length then (dec (x / 100)).getD j 0 else [48 + x / 10 % 10, 48 + x % 10].getD (j - (dec (x / 100)).length) 0 := by
            rw [hd1]
            exact getD_app (by rw [← hd1]; exact hj)
          rw [hg]
          by_cases e : j < (dec (x / 100)).length
          · rw [if_pos e]; exact e2 j e
          · rw [if_neg e]
            have : j = (dec (x / 100)).length ∨ j = (dec (x / 100)).length + 1 := by omega
            rcases this with rfl | rfl
            · rw [Nat.sub_self, o2 _ (by omega), show i - (dec x).length + (dec (x / 100)).length = (i - 1) - 1 from by omega]
              refine gA_sA_at.trans ?_
              show Int32.ofNat _ = Int32.ofNat (48 + x / 10 % 10)
              congr 2
              omega
            · rw [Nat.add_sub_cancel_left, o2 _ (by omega), show i - (dec x).length + ((dec (x / 100)).length + 1) = i - 1 from by omega]
              refine (gA_sA_nj (by omega)).trans (gA_sA_at.trans ?_)
              show Int32.ofNat _ = Int32.ofNat (48 + x % 10)
              congr 2
              omega
        · rw [o2 j (by omega)]
          exact (gA_sA_nj (by omega)).trans (gA_sA_nj (by omega))
theorem j_getChars {S : zS} (hF : zFin true S) (x i v : Nat) (hx : x < 2147483648) (hdt : zDig S) (hv1 : v < gN S) (hN2 : gN S < 2000000) (hvt : ztyp S v = 101) (hl : (dec x).length ≤ i) (hi : i < 30000) (hvl : i ≤ zlen S v)
    (h : ∀ S', zTK [] [v] S S' → gN S' = gN S → (∀ j, j < (dec x).length → gA S' v (i - (dec x).length + j) = Int32.ofNat ((dec x).getD j 0)) → (∀ j, j < i - (dec x).length ∨ i ≤ j → gA S' v j = gA S v j) → post (.returned (some (.int (Int32.ofNat (i - (dec x).length)))), S')) : zCall d 443 [.int (Int32.ofNat x), .int (Int32.ofNat i), .ref v] S post :=
  gc0 hF x i v hx hi (j_getCharsL (by omega) x hx i S hF hdt hv1 hN2 hvt hl hi hvl (fun S' k e o => h S' k k.N e o))
end S3b
theorem zDig.ke {S S' : zS} {N : Nat} {A Fs : List Nat} (h : zDig S) (k : zKE N A Fs S S') (hA : ∀ a ∈ A, a < zLB) : zDig S' := by
  obtain ⟨h1, h2, h3, h4, h5⟩ := h
  have n1 : 4294968296 ∉ A := fun x => absurd (hA _ x) (by decide)
  have n2 : 4294968297 ∉ A := fun x => absurd (hA _ x) (by decide)
  have l1 : (4294968296 : Nat) < N ∨ zLB ≤ 4294968296 := Or.inr (by decide)
  have l2 : (4294968297 : Nat) < N ∨ zLB ≤ 4294968297 := Or.inr (by decide)
  exact ⟨fun j hj => ⟨by rw [k.A l1 n1]; exact (h1 j hj).1, by rw [k.A l2 n2]; exact (h1 j hj).2⟩, (k.T l1).trans h2, (k.T l2).trans h3, (k.Len l1).trans h4, (k.Len l2).trans h5⟩
theorem ai0 {d : Nat} {S : zS} (hF : zFin true S) (hd : 4 ≤ d) {b v cap N : Nat} {cs : List Nat} (x : Nat) (hs : zSb S b v cap cs) (hb1 : b < gN S) (hv1 : v < gN S) (hb2 : 1639 ≤ b) (hv2 : 1639 ≤ v) (hbv : b ≠ v) (hlc : cs.length ≤ cap) (hcap : cap < 40000) (hN : 1639 ≤ gN S) (hN2 : gN S < 1900000) (hNv : N ≤ v) (hx : x < 2147483648) (hl : cs.length < 15000) (hm : (dec x).length ≤ 10) (hdt : zDig S) {post : Outcome × zS → Prop} (h1 : ∀ S4 : zS, ∀ v4 : Nat, ∀ cap4 : Nat, (zFin true S4) → (zSb S4 b v4 cap4 cs) → (zKE N [] [203] S S4) → (cs.length + ((dec x).length) ≤ cap4) → ((gN S ≤ gN S4 ∧ gN S4 + cap ≤ gN S + cap4 ∧ gZ S4 + 2 * cap ≤ gZ S + 2 * cap4) ∧ (v < gN S4 ∧ v4 < gN S4 ∧ N ≤ v4 ∧ 1639 ≤ v4 ∧ cap ≤ cap4 ∧ cap4 ≤ max cap (2 * (cs.length + ((dec x).length)) + 2))) → ∀ G : zS, (zTK [] [v4] S4 G) → (gN G = gN S4) → (∀ j, j < (dec x).length → gA G v4 (cs.length + (dec x).length - (dec x).length + j) = Int32.ofNat ((dec x).getD j 0)) → (∀ j, j < cs.length + (dec x).length - (dec x).length ∨ cs.length + (dec x).length ≤ j → gA G v4 j = gA S4 v4 j) → post (.returned (some (.ref b)), sI G 206 b (Int32.ofNat (cs.length + ((dec x).length))))) : zCall d 428 [.ref b, .int (Int32.ofNat x)] S post := by
  have ht : ztab 428 = ztb428 := rfl
  show zEv d 428 0 [.ref b, .int (Int32.ofNat x)] [] S post
  refine zv_c1 ht rfl rfl (zv_c1 ht rfl rfl ?_)
  have C2 : ∀ (pst1 : Outcome × zS → Prop), (∀ S4 : zS, ∀ v4 : Nat, ∀ cap4 : Nat, (zFin true S4) → (zSb S4 b v4 cap4 cs) → (zKE N [] [203] S S4) → (cs.length + ((dec x).length) ≤ cap4) → ((gN S ≤ gN S4 ∧ gN S4 + cap ≤ gN S + cap4 ∧ gZ S4 + 2 * cap ≤ gZ S + 2 * cap4) ∧ (v < gN S4 ∧ v4 < gN S4 ∧ N ≤ v4 ∧ 1639 ≤ v4 ∧ cap ≤ cap4 ∧ cap4 ≤ max cap (2 * (cs.length + ((dec x).length)) + 2))) → ∀ G : zS, (zTK [] [v4] S4 G) → (gN G = gN S4) → (∀ j, j < (dec x).length → gA G v4 (cs.length + (dec x).length - (dec x).length + j) = Int32.ofNat ((dec x).getD j 0)) → (∀ j, j < cs.length + (dec x).length - (dec x).length ∨ cs.length + (dec x).length ≤ j → gA G v4 j = gA S4 v4 j) → pst1 (.returned (some (.ref b)), sI G 206 b (Int32.ofNat (cs.length + ((dec x).length))))) → zCall (d - 1) 422 [.ref b, .int (Int32.ofNat x)] S pst1 := by
    intro pst1 k9
    have ht3 : ztab 422 = ztb422 := rfl
    show zEv (d - 1) 422 0 [.ref b, .int (Int32.ofNat x), .retAddr 0, .retAddr 0] [] S pst1
    refine zv_c1 ht3 rfl rfl ?_
    refine zv_ei (x := Int32.ofNat cs.length) ht3 rfl rfl (zhas_of (hs.1) rfl) hs.2.2.2.1 ?_
    refine zv_c2 (L' := [.ref b, .int (Int32.ofNat x), .int (Int32.ofNat cs.length), .retAddr 0]) ht3 rfl rfl ?_
    refine zv_c1 ht3 rfl rfl (zv_c1 ht3 rfl rfl ?_)
    refine zv_cl ht3 rfl rfl rfl rfl (by omega) (Nat.le_of_ble_eq_true rfl) (j_stringSize (S := S) hF x (by omega) ?_)
    show zEv (d - 1) 422 10 [.ref b, .int (Int32.ofNat x), .int (Int32.ofNat cs.length), .retAddr 0] [.int (Int32.ofNat ((dec x).length)), .int (Int32.ofNat cs.length)] S pst1
    refine zv_e1 (x := Int32.ofNat (cs.length + ((dec x).length))) ht3 rfl rfl (zi_addE (a := cs.length) (b := (dec x).length) rfl rfl) ?_
    refine zv_c2 (L' := [.ref b, .int (Int32.ofNat x), .int (Int32.ofNat cs.length), .int (Int32.ofNat (cs.length + ((dec x).length)))]) ht3 rfl rfl ?_
    refine zv_c1 ht3 rfl rfl (zv_c1 ht3 rfl rfl ?_)
    refine zv_cl ht3 rfl rfl rfl (zv_tgv (hs.1) rfl) (by omega) (Nat.le_of_ble_eq_true rfl) (j_ensure (S := S) (N := N) hF (by omega) hs hcap hN2 hNv (cs.length + ((dec x).length)) (by omega) (by omega) (fun S4 v4 cap4 hF4 hs4 k4 m4 g4 => ?_))
    show zEv (d - 1) 422 17 [.ref b, .int (Int32.ofNat x), .int (Int32.ofNat cs.length), .int (Int32.ofNat (cs.length + ((dec x).length)))] [] S4 pst1
    refine zv_c1 ht3 rfl rfl ?_
    have C6 : ∀ (pst5 : Outcome × zS → Prop), (pst5 (.returned (some (.int 1)), S4)) → zCall ((d - 1) - 1) 414 [.ref b] S4 pst5 := by
      intro pst5 k8
      have ht7 : ztab 414 = ztb414 := rfl
      show zEv ((d - 1) - 1) 414 0 [.ref b] [] S4 pst5
      refine zv_c1 ht7 rfl rfl ?_
      refine zv_br ht7 rfl rfl rfl (fun h => absurd h (by decide)) (fun _ => ?_)
      refine zv_c1 ht7 rfl rfl ?_
      refine zv_ei (x := 0) ht7 rfl rfl (zhas_of (hs4.1) rfl) hs4.2.2.1 ?_
      refine zv_br ht7 rfl rfl rfl (fun h => absurd h (by decide)) (fun _ => ?_)
      refine zv_c1 ht7 rfl rfl (zv_c1 ht7 rfl rfl ?_)
      exact zv_rc ht7 rfl rfl rfl rfl (by decide) k8
    refine zv_cl ht3 rfl rfl rfl (zv_tgv (hs4.1) rfl) (by omega) (Nat.le_of_ble_eq_true rfl) (C6 _ ?_)
    show zEv (d - 1) 422 21 [.ref b, .int (Int32.ofNat x), .int (Int32.ofNat cs.length), .int (Int32.ofNat (cs.length + ((dec x).length)))] [.int 1] S4 pst1
    refine zv_br ht3 rfl rfl rfl (fun h => absurd h (by decide)) (fun _ => ?_)
    refine zv_c1 ht3 rfl rfl (zv_c1 ht3 rfl rfl (zv_c1 ht3 rfl rfl ?_))
    refine zv_g3 (q := v4) ht3 rfl hF4 rfl rfl (zhas_of (hs4.1) rfl) hs4.2.1 ?_
    refine zv_cl ht3 rfl rfl rfl rfl (by omega) (Nat.le_of_ble_eq_true rfl) (j_getChars (S := S4) hF4 x _ v4 (by omega) (hdt.ke k4 (by decide)) (by omega) (by omega) hs4.2.2.2.2.1 (by omega) (by omega) (Nat.le_trans (by omega) (Nat.le_of_eq hs4.2.2.2.2.2.1.symm)) (fun G kG nG eG oG => ?_))
    show zEv (d - 1) 422 33 [.ref b, .int (Int32.ofNat x), .int (Int32.ofNat cs.length), .int (Int32.ofNat (cs.length + ((dec x).length)))] [.int (Int32.ofNat (cs.length + (dec x).length - (dec x).length))] G pst1
    refine zv_c1 ht3 rfl rfl (zv_c1 ht3 rfl rfl (zv_c1 ht3 rfl rfl (zv_c1 ht3 rfl rfl ?_)))
    refine zv_ci (S' := sI G 206 b (Int32.ofNat (cs.length + ((dec x).length)))) ht3 rfl rfl ⟨(zhas_of (Eq.trans ((kG.ty _).1) hs4.1) rfl), (show b < gN G from by omega)⟩ ?_
    refine zv_c1 ht3 rfl rfl ?_
    exact zv_rt ht3 rfl rfl rfl rfl (k9 S4 v4 cap4 hF4 hs4 k4 m4 g4 G kG nG eG oG)
  refine zv_cl ht rfl rfl rfl (zv_tgs (hs.1)) (by omega) (Nat.le_of_ble_eq_true rfl) (C2 _ (fun S4 v4 cap4 hF4 hs4 k4 m4 g4 G kG nG eG oG => ?_))
  show zEv d 428 5 [.ref b, .int (Int32.ofNat x)] [.ref b] (sI G 206 b (Int32.ofNat (cs.length + ((dec x).length)))) post
  refine zv_c1 ht rfl rfl (zv_c1 ht rfl rfl ?_)
  exact zv_rt ht rfl rfl rfl rfl (h1 S4 v4 cap4 hF4 hs4 k4 m4 g4 G kG nG eG oG)

section S3c
variable {d : Nat} {post : Outcome × zS → Prop}
theorem j_appI {S : zS} {N : Nat} (hF : zFin true S) (hd : 4 ≤ d) {b v cap : Nat} {cs : List Nat} (hs : zSb S b v cap cs) (hcap : cap < 40000) (hN2 : gN S < 1900000) (hNv : N ≤ v) (hl : cs.length < 15000) (x : Nat) (hx : x < 2147483648) (hdt : zDig S)
    (h : ∀ S1 v1 cap1, zFin true S1 → zSb S1 b v1 cap1 (cs ++ dec x) → zKE N [] [203, 206] S S1 → (gN S ≤ gN S1 ∧ gN S1 + cap ≤ gN S + cap1 ∧ gZ S1 + 2 * cap ≤ gZ S + 2 * cap1) ∧ (v1 < gN S1 ∧ N ≤ v1 ∧ cap ≤ cap1 ∧ cap1 ≤ max cap (2 * (cs.length + (dec x).length) + 2)) → post (.returned (some (.ref b)), S1)) : zCall d 428 [.ref b, .int (Int32.ofNat x)] S post := by
  obtain ⟨n1, n2, n3, n4, n5, n6⟩ := hs.n
  have hLB : zLB = 4294967296 := rfl
  refine ai0 hF hd x hs n1 n2 n3 n4 n5 n6 hcap (by omega) hN2 hNv hx hl (dec_max hx) hdt (fun S1 v1 cap1 hF1 hs1 k1 m1 g1 G kG _ eG oG => ?_)
  obtain ⟨q1, q2, q3, q4, q5, q6⟩ := hs1.n
  obtain ⟨h1, h2, h3, h4, h5, h6, h7, h8, h9, -⟩ := hs1
  rw [Nat.add_sub_cancel] at eG oG
  have gP1 : gP G 203 b = some v1 := by show G.2.1 203 b = _; rw [kG.1.1]; exact h2
  have gn : gN G = gN S1 := kG.N
  have gz : gZ G = gZ S1 := kG.Z
  have kK : zKE N [] [203, 206] S1 G := by
    refine ⟨⟨Nat.le_of_eq gn.symm, Nat.le_of_eq gz.symm⟩, fun a ha => ?_⟩
    have e9 : G.2.2.2 = S1.2.2.2 := kG.1.2
    have hm := dec_max hx
    have hv9 : v1 < zLB := by omega
    have hav : a ∉ [v1] := by rw [List.mem_singleton]; omega
    refine ⟨by show G.2.2.2.2.2.1 a = _; rw [e9]; rfl, fun _ => ⟨fun f _ => ⟨kG.I (by simp) a, by show G.2.1 f a = _; rw [kG.1.1]; rfl⟩, kG.2.2 a hav, by show G.2.2.2.1 a = _; rw [e9]; rfl, by show G.2.2.2.2.1 a = _; rw [e9]; rfl⟩⟩
  refine h _ v1 cap1 (kG.fin hF1) ⟨(kG.ty b).1.trans h1, gP1, (kG.I (by decide) b).trans h3, ?_, (kG.ty v1).1.trans h5, (kG.ty v1).2.trans h6, ?_, ?_, ?_, ?_, ?_, q3, q4, q5⟩ ((k1.w (Nat.le_refl _) (by decide) (by decide)).tr (kK.tr (zKE_sI (Or.inl (by decide))))) ⟨?_, ?_⟩
  · refine (gI_sI_at (S := G) (f := 206)).trans ?_
    simp
  · simp; omega
  · intro j hj
    rw [getD_app hj]
    by_cases e : j < cs.length
    · rw [if_pos e]
      exact (oG j (Or.inl e)).trans (h8 j e)
    · rw [if_neg e]
      have e2 := eG (j - cs.length) (by simp at hj; omega)
      rw [show cs.length + (j - cs.length) = j from by omega] at e2
      exact e2
  · intro y hy
    rcases List.mem_append.mp hy with hy | hy
    · exact h9 y hy
    · exact dec_128 x y hy
  · show b < gN G; omega
  · show v1 < gN G; omega
  · show gN S ≤ gN G ∧ gN G + cap ≤ gN S + cap1 ∧ gZ G + 2 * cap ≤ gZ S + 2 * cap1
    rw [gn, gz]; exact g1.1
  · show v1 < gN G ∧ _
    exact ⟨by omega, by omega, by omega, by omega⟩
end S3c

