set_option maxRecDepth 100000
/-! ===== the house's hashes by an operation's byte ===== -/
def hOp (s : Nat) : Nat := match s with
  | 0 => 168
  | 1 => 170
  | 2 => 166
  | _ => 169
theorem sgf {f g : Nat → Int32} {n : Nat} (h : ∀ j, j < n → f j = sg (g j)) (h2 : ∀ j, g j &&& 255 = g j) : ∀ j, j < n → f j &&& 255 = g j := fun j hj => by rw [h j hj, sg_255, h2 j]
theorem by0 {d : Nat} {S : zS} (hF : zFin true S) (hd : 4 ≤ d) (a b n : Nat) {f : Nat → Int32} (hn : n ≤ 128) (hl : n ≤ zlen S a) (hc : xC S) (hat : ztyp S a = 101) (ha0 : a ∉ [4, 5, 6, 7, 8]) (hbt : ztyp S b = 101) (hbl : 32 ≤ zlen S b) (hb : b ∉ [2, 3, 4, 5, 6, 7, 8]) (hbL : b < zLB) (hf : ∀ j, j < n → gA S a j &&& 255 = f j) {post : Outcome × zS → Prop} (h1 : ∀ G1 : zS, (zTK [] [4, 5, 6, 7, 8, b] S G1) → (∀ j, j < 32 → gA G1 b j = sg (hSha n f j)) → (∀ j, 32 ≤ j → gA G1 b j = gA S b j) → post (.returned (some (.int 32)), G1)) : zCall d 56 [.ref 1, .int 168, .ref a, .int (Int32.ofNat n), .ref b] S post := by
  have ht : ztab 56 = ztb56 := rfl
  show zEv d 56 0 [.ref 1, .int 168, .ref a, .int (Int32.ofNat n), .ref b] [] S post
  refine zv_c1 ht rfl rfl ?_
  refine zv_sw ht rfl rfl rfl rfl rfl ?_
  refine And.intro (fun h => absurd h (by decide)) (fun _ => ?_)
  refine And.intro (fun _ => ?_) (fun h => absurd (by decide) h)
  refine zv_c1 ht rfl rfl (zv_c1 ht rfl rfl (zv_c1 ht rfl rfl (zv_c1 ht rfl rfl ?_)))
  refine zv_cl ht rfl rfl rfl rfl (by omega) (Nat.le_of_ble_eq_true rfl) (x_sha (a := a) (b := b) (n := n) (f := f) (S := S) hF (by omega) hc hn hat hl ha0 hbt (by omega) hb hbL hf (fun G1 kG1 eG1 oG1 => ?_))
  show zEv d 56 36 [.ref 1, .int 168, .ref a, .int (Int32.ofNat n), .ref b] [] G1 post
  refine zv_c1 ht rfl rfl ?_
  exact zv_rt ht rfl rfl rfl rfl (h1 G1 kG1 eG1 oG1)

theorem by1 {d : Nat} {S : zS} (hF : zFin true S) (hd : 4 ≤ d) (a b n : Nat) {f : Nat → Int32} (hn : n ≤ 128) (hl : n ≤ zlen S a) (hc : xC S) (hat : ztyp S a = 101) (ha0 : a ∉ [4, 5, 6, 7, 8]) (hbt : ztyp S b = 101) (hbl : 32 ≤ zlen S b) (hb : b ∉ [2, 3, 4, 5, 6, 7, 8]) (hbL : b < zLB) (hf : ∀ j, j < n → gA S a j &&& 255 = f j) {post : Outcome × zS → Prop} (h1 : ∀ G1 : zS, (zTK [] [4, 5, 6, 7, 8, 9] S G1) → (∀ j, j < 32 → gA G1 9 j = sg (hSha n f j)) → (∀ j, 32 ≤ j → gA G1 9 j = gA S 9 j) → ∀ G2 : zS, (zTK [] [4, 5, 6, 7, 8, b] G1 G2) → (∀ j, j < 32 → gA G2 b j = sg (hSha 32 (hSha n f) j)) → (∀ j, 32 ≤ j → gA G2 b j = gA G1 b j) → post (.returned (some (.int 32)), G2)) : zCall d 56 [.ref 1, .int 170, .ref a, .int (Int32.ofNat n), .ref b] S post := by
  have ht : ztab 56 = ztb56 := rfl
  show zEv d 56 0 [.ref 1, .int 170, .ref a, .int (Int32.ofNat n), .ref b] [] S post
  refine zv_c1 ht rfl rfl ?_
  refine zv_sw ht rfl rfl rfl rfl rfl ?_
  refine And.intro (fun h => absurd h (by decide)) (fun _ => ?_)
  refine And.intro (fun h => absurd h (by decide)) (fun _ => ?_)
  refine zv_c1 ht rfl rfl (zv_c1 ht rfl rfl (zv_c1 ht rfl rfl (zv_c1 ht rfl rfl ?_)))
  refine zv_gl (st' := [.ref 9, .int (Int32.ofNat n), .ref a, .ref 1]) ht rfl hF rfl rfl rfl ?_
  refine zv_cl ht rfl rfl rfl rfl (by omega) (Nat.le_of_ble_eq_true rfl) (x_sha (a := a) (b := 9) (n := n) (f := f) (S := S) hF (by omega) hc hn hat hl ha0 rfl (Nat.le_of_ble_eq_true rfl) (by decide) (by decide) hf (fun G1 kG1 eG1 oG1 => ?_))
  show zEv d 56 60 [.ref 1, .int 170, .ref a, .int (Int32.ofNat n), .ref b] [] G1 post
  refine zv_c1 ht rfl rfl (zv_c1 ht rfl rfl ?_)
  refine zv_br ht rfl rfl rfl (fun h => absurd h (by decide)) (fun _ => ?_)
  refine zv_c1 ht rfl rfl (zv_c1 ht rfl rfl ?_)
  refine zv_gl (st' := [.ref 9, .ref 1]) ht rfl (kG1.fin hF) rfl rfl rfl ?_
  refine zv_c1 ht rfl rfl (zv_c1 ht rfl rfl ?_)
  refine zv_cl ht rfl rfl rfl rfl (by omega) (Nat.le_of_ble_eq_true rfl) (x_sha (a := 9) (b := b) (n := 32) (f := hSha n f) (S := G1) (kG1.fin hF) (by omega) (hc.k kG1 (by decide) (by decide) (by decide)) (by decide) rfl (Nat.le_of_ble_eq_true rfl) (by decide) ((kG1.ty b).1.trans hbt) (Nat.le_trans (by omega) (Nat.le_of_eq (kG1.ty b).2.symm)) hb hbL (sgf eG1 (hSha_255 n f)) (fun G2 kG2 eG2 oG2 => ?_))
  show zEv d 56 79 [.ref 1, .int 170, .ref a, .int (Int32.ofNat n), .ref b] [] G2 post
  refine zv_c1 ht rfl rfl (zv_c1 ht rfl rfl (zv_c1 ht rfl rfl ?_))
  refine zv_br ht rfl rfl rfl (fun h => absurd h (by decide)) (fun _ => ?_)
  refine zv_c1 ht rfl rfl (zv_c1 ht rfl rfl ?_)
  exact zv_rt ht rfl rfl rfl rfl (h1 G1 kG1 eG1 oG1 G2 kG2 eG2 oG2)

theorem by2 {d : Nat} {S : zS} (hF : zFin true S) (hd : 9 ≤ d) (a b n : Nat) {f : Nat → Int32} (hn : n ≤ 128) (hl : n ≤ zlen S a) (hc : xC S) (hat : ztyp S a = 101) (ha0 : a ∉ [4, 5, 6, 7, 8]) (hbt : ztyp S b = 101) (hbl : 20 ≤ zlen S b) (hb : b ∉ [2, 3, 4, 5, 6, 7, 8]) (hbL : b < zLB) (hf : ∀ j, j < n → gA S a j &&& 255 = f j) {post : Outcome × zS → Prop} (h1 : ∀ G1 : zS, (zTK [] [4, 5, 6, 7, 8, b] S G1) → (∀ j, j < 20 → gA G1 b j = sg (hRip n f j)) → (∀ j, 20 ≤ j → gA G1 b j = gA S b j) → post (.returned (some (.int 20)), G1)) : zCall d 56 [.ref 1, .int 166, .ref a, .int (Int32.ofNat n), .ref b] S post := by
  have ht : ztab 56 = ztb56 := rfl
  show zEv d 56 0 [.ref 1, .int 166, .ref a, .int (Int32.ofNat n), .ref b] [] S post
  refine zv_c1 ht rfl rfl ?_
  refine zv_sw ht rfl rfl rfl rfl rfl ?_
  refine And.intro (fun _ => ?_) (fun h => absurd (by decide) h)
  refine zv_c1 ht rfl rfl (zv_c1 ht rfl rfl (zv_c1 ht rfl rfl (zv_c1 ht rfl rfl ?_)))
  refine zv_cl ht rfl rfl rfl rfl (by omega) (Nat.le_of_ble_eq_true rfl) (x_ripemd (a := a) (b := b) (n := n) (f := f) (S := S) hF (by omega) hc hn hat hl ha0 hbt (by omega) hb hbL hf (fun G1 kG1 eG1 oG1 => ?_))
  show zEv d 56 47 [.ref 1, .int 166, .ref a, .int (Int32.ofNat n), .ref b] [] G1 post
  refine zv_c1 ht rfl rfl ?_
  exact zv_rt ht rfl rfl rfl rfl (h1 G1 kG1 eG1 oG1)

theorem by3 {d : Nat} {S : zS} (hF : zFin true S) (hd : 9 ≤ d) (a b n : Nat) {f : Nat → Int32} (hn : n ≤ 128) (hl : n ≤ zlen S a) (hc : xC S) (hat : ztyp S a = 101) (ha0 : a ∉ [4, 5, 6, 7, 8]) (hbt : ztyp S b = 101) (hbl : 20 ≤ zlen S b) (hb : b ∉ [2, 3, 4, 5, 6, 7, 8]) (hbL : b < zLB) (hf : ∀ j, j < n → gA S a j &&& 255 = f j) {post : Outcome × zS → Prop} (h1 : ∀ G1 : zS, (zTK [] [4, 5, 6, 7, 8, 9] S G1) → (∀ j, j < 32 → gA G1 9 j = sg (hSha n f j)) → (∀ j, 32 ≤ j → gA G1 9 j = gA S 9 j) → ∀ G2 : zS, (zTK [] [4, 5, 6, 7, 8, b] G1 G2) → (∀ j, j < 20 → gA G2 b j = sg (hRip 32 (hSha n f) j)) → (∀ j, 20 ≤ j → gA G2 b j = gA G1 b j) → post (.returned (some (.int 20)), G2)) : zCall d 56 [.ref 1, .int 169, .ref a, .int (Int32.ofNat n), .ref b] S post := by
  have ht : ztab 56 = ztb56 := rfl
  show zEv d 56 0 [.ref 1, .int 169, .ref a, .int (Int32.ofNat n), .ref b] [] S post
  refine zv_c1 ht rfl rfl ?_
  refine zv_sw ht rfl rfl rfl rfl rfl ?_
  refine And.intro (fun h => absurd h (by decide)) (fun _ => ?_)
  refine And.intro (fun h => absurd h (by decide)) (fun _ => ?_)
  refine zv_c1 ht rfl rfl (zv_c1 ht rfl rfl (zv_c1 ht rfl rfl (zv_c1 ht rfl rfl ?_)))
  refine zv_gl (st' := [.ref 9, .int (Int32.ofNat n), .ref a, .ref 1]) ht rfl hF rfl rfl rfl ?_
  refine zv_cl ht rfl rfl rfl rfl (by omega) (Nat.le_of_ble_eq_true rfl) (x_sha (a := a) (b := 9) (n := n) (f := f) (S := S) hF (by omega) hc hn hat hl ha0 rfl (Nat.le_of_ble_eq_true rfl) (by decide) (by decide) hf (fun G1 kG1 eG1 oG1 => ?_))
  show zEv d 56 60 [.ref 1, .int 169, .ref a, .int (Int32.ofNat n), .ref b] [] G1 post
  refine zv_c1 ht rfl rfl (zv_c1 ht rfl rfl ?_)
  refine zv_br ht rfl rfl rfl (fun _ => ?_) (fun h => absurd (by decide) h)
  refine zv_c1 ht rfl rfl (zv_c1 ht rfl rfl ?_)
  refine zv_gl (st' := [.ref 9, .ref 1]) ht rfl (kG1.fin hF) rfl rfl rfl ?_
  refine zv_c1 ht rfl rfl (zv_c1 ht rfl rfl ?_)
  refine zv_cl ht rfl rfl rfl rfl (by omega) (Nat.le_of_ble_eq_true rfl) (x_ripemd (a := 9) (b := b) (n := 32) (f := hSha n f) (S := G1) (kG1.fin hF) (by omega) (hc.k kG1 (by decide) (by decide) (by decide)) (by decide) rfl (Nat.le_of_ble_eq_true rfl) (by decide) ((kG1.ty b).1.trans hbt) (Nat.le_trans (by omega) (Nat.le_of_eq (kG1.ty b).2.symm)) hb hbL (sgf eG1 (hSha_255 n f)) (fun G2 kG2 eG2 oG2 => ?_))
  show zEv d 56 94 [.ref 1, .int 169, .ref a, .int (Int32.ofNat n), .ref b] [] G2 post
  refine zv_c1 ht rfl rfl (zv_c1 ht rfl rfl ?_)
  refine zv_br ht rfl rfl rfl (fun _ => ?_) (fun h => absurd (by decide) h)
  refine zv_c1 ht rfl rfl ?_
  exact zv_rt ht rfl rfl rfl rfl (h1 G1 kG1 eG1 oG1 G2 kG2 eG2 oG2)

section X2
variable {d : Nat} {post : Outcome × zS → Prop}
theorem x_by (s : Nat) (hs : s < 4) {a b n : Nat} {f : Nat → Int32} {S : zS} (hF : zFin true S) (hd : 9 ≤ d) (hc : xC S) (hn : n ≤ 128) (hat : ztyp S a = 101) (hl : n ≤ zlen S a) (ha : a ∉ [4, 5, 6, 7, 8]) (hbt : ztyp S b = 101) (hbl : hSz s ≤ zlen S b) (hb : b ∉ [2, 3, 4, 5, 6, 7, 8, 9]) (hbL : b < zLB) (hf : ∀ j, j < n → gA S a j &&& 255 = f j)
    (h : ∀ S', zTK [] [4, 5, 6, 7, 8, 9, b] S S' → (∀ j, j < hSz s → gA S' b j = sg (hBy s n f j)) → (∀ j, hSz s ≤ j → gA S' b j = gA S b j) → post (.returned (some (.int (Int32.ofNat (hSz s)))), S')) : zCall d 56 [.ref 1, .int (Int32.ofNat (hOp s)), .ref a, .int (Int32.ofNat n), .ref b] S post := by
  have hb' : b ∉ [2, 3, 4, 5, 6, 7, 8] := fun e => hb (by simp only [List.mem_cons, List.not_mem_nil, or_false] at e ⊢; omega)
  have hb9 : b ∉ [4, 5, 6, 7, 8, 9] := fun e => hb (by simp only [List.mem_cons, List.not_mem_nil, or_false] at e ⊢; omega)
  have w1 : ∀ x, x ∈ [4, 5, 6, 7, 8, b] → x ∈ [4, 5, 6, 7, 8, 9, b] := fun x hx => by simp only [List.mem_cons, List.not_mem_nil, or_false] at hx ⊢; omega
  have w2 : ∀ x, x ∈ [4, 5, 6, 7, 8, 9] → x ∈ [4, 5, 6, 7, 8, 9, b] := fun x hx => by simp only [List.mem_cons, List.not_mem_nil, or_false] at hx ⊢; omega
  have : s = 0 ∨ s = 1 ∨ s = 2 ∨ s = 3 := by omega
  rcases this with rfl | rfl | rfl | rfl
  · exact by0 hF (by omega) a b n hn hl hc hat ha hbt hbl hb' hbL hf (fun G kG eG oG => h G (kG.w (by decide) w1) eG oG)
  · refine by1 hF (by omega) a b n hn hl hc hat ha hbt hbl hb' hbL hf (fun G kG eG oG G2 kG2 eG2 oG2 => h G2 ((kG.w (by decide) w2).tr (kG2.w (by decide) w1)) eG2 (fun j hj => (oG2 j hj).trans (kG.A hb9)))
  · exact by2 hF (by omega) a b n hn hl hc hat ha hbt hbl hb' hbL hf (fun G kG eG oG => h G (kG.w (by decide) w1) eG oG)
  · refine by3 hF (by omega) a b n hn hl hc hat ha hbt hbl hb' hbL hf (fun G kG eG oG G2 kG2 eG2 oG2 => h G2 ((kG.w (by decide) w2).tr (kG2.w (by decide) w1)) eG2 (fun j hj => (oG2 j hj).trans (kG.A hb9)))
end X2

