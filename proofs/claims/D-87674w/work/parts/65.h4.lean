set_option maxRecDepth 100000
/-! ===== the twin's hashes by sort ===== -/
theorem hs0 {d : Nat} {S : zS} (hF : zFin true S) (hd : 3 ≤ d) {n : Nat} {f : Nat → Int32}  (h_sayings : gI S 57 1592 = Int32.ofNat n) (hn : n ≤ 128) (hc : mC S) (hf : ∀ j, j < n → gA S 1594 j = f j) {post : Outcome × zS → Prop} (h1 : ∀ G1 : zS, (zTK [57] mSd S G1) → (gI G1 57 1592 = 0) → (∀ j, j < 32 → gA G1 1595 j = hSha n f j) → post (.returned none, G1)) : zCall d 111 [.ref 1592, .int 0] S post := by
  have ht : ztab 111 = ztb111 := rfl
  show zEv d 111 0 [.ref 1592, .int 0, .retAddr 0] [] S post
  refine zv_c1 ht rfl rfl (zv_c1 ht rfl rfl ?_)
  refine zv_br ht rfl rfl rfl (fun _ => ?_) (fun h => absurd (by decide) h)
  refine zv_c1 ht rfl rfl ?_
  refine zv_cl ht rfl rfl rfl rfl (by omega) (Nat.le_of_ble_eq_true rfl) (m_sha (n := n) (f := f) (S := S) hF (by omega) hc (by omega) h_sayings hf (fun G1 kG1 sG1 eG1 => ?_))
  show zEv d 111 14 [.ref 1592, .int 0, .retAddr 0] [] G1 post
  refine zv_c1 ht rfl rfl ?_
  refine zv_br ht rfl rfl rfl (fun h => absurd h (by decide)) (fun _ => ?_)
  exact zv_rt ht rfl rfl rfl rfl (h1 G1 kG1 sG1 eG1)

theorem hs1 {d : Nat} {S : zS} (hF : zFin true S) (hd : 3 ≤ d) {n : Nat} {f : Nat → Int32}  (h_sayings : gI S 57 1592 = Int32.ofNat n) (hn : n ≤ 128) (hc : mC S) (hf : ∀ j, j < n → gA S 1594 j = f j) {post : Outcome × zS → Prop} (h1 : ∀ G1 : zS, (zTK [57] mSd S G1) → (gI G1 57 1592 = 0) → (∀ j, j < 32 → gA G1 1595 j = hSha n f j) → zEv d 111 21 [.ref 1592, .int (Int32.ofNat 1), .int (Int32.ofNat 0)] [] G1 post) : zCall d 111 [.ref 1592, .int 1] S post := by
  have ht : ztab 111 = ztb111 := rfl
  show zEv d 111 0 [.ref 1592, .int 1, .retAddr 0] [] S post
  refine zv_c1 ht rfl rfl (zv_c1 ht rfl rfl ?_)
  refine zv_br ht rfl rfl rfl (fun _ => ?_) (fun h => absurd (by decide) h)
  refine zv_c1 ht rfl rfl ?_
  refine zv_cl ht rfl rfl rfl rfl (by omega) (Nat.le_of_ble_eq_true rfl) (m_sha (n := n) (f := f) (S := S) hF (by omega) hc (by omega) h_sayings hf (fun G1 kG1 sG1 eG1 => ?_))
  show zEv d 111 14 [.ref 1592, .int 1, .retAddr 0] [] G1 post
  refine zv_c1 ht rfl rfl ?_
  refine zv_br ht rfl rfl rfl (fun _ => ?_) (fun h => absurd (by decide) h)
  refine zv_c1 ht rfl rfl ?_
  refine zv_c2 (L' := [.ref 1592, .int 1, .int 0]) ht rfl rfl ?_
  exact (h1 G1 kG1 sG1 eG1)

theorem hs2 {d : Nat} {S : zS} (hF : zFin true S) (hd : 4 ≤ d) {n : Nat} {f : Nat → Int32}  (h_sayings : gI S 57 1592 = Int32.ofNat n) (hn : n ≤ 128) (hc : mC S) (hf : ∀ j, j < n → gA S 1594 j = f j) {post : Outcome × zS → Prop} (h1 : ∀ G1 : zS, (zTK [57] mSd S G1) → (gI G1 57 1592 = 0) → (∀ j, j < 20 → gA G1 1595 j = hRip n f j) → post (.returned none, G1)) : zCall d 111 [.ref 1592, .int 2] S post := by
  have ht : ztab 111 = ztb111 := rfl
  show zEv d 111 0 [.ref 1592, .int 2, .retAddr 0] [] S post
  refine zv_c1 ht rfl rfl (zv_c1 ht rfl rfl ?_)
  refine zv_br ht rfl rfl rfl (fun h => absurd h (by decide)) (fun _ => ?_)
  refine zv_c1 ht rfl rfl ?_
  refine zv_cl ht rfl rfl rfl rfl (by omega) (Nat.le_of_ble_eq_true rfl) (m_ripemd (n := n) (f := f) (S := S) hF (by omega) hc (by omega) h_sayings hf (fun G1 kG1 sG1 eG1 => ?_))
  show zEv d 111 9 [.ref 1592, .int 2, .retAddr 0] [] G1 post
  exact zv_rt ht rfl rfl rfl rfl (h1 G1 kG1 sG1 eG1)

theorem hs3 {d : Nat} {S : zS} (hF : zFin true S) (hd : 3 ≤ d) {n : Nat} {f : Nat → Int32}  (h_sayings : gI S 57 1592 = Int32.ofNat n) (hn : n ≤ 128) (hc : mC S) (hf : ∀ j, j < n → gA S 1594 j = f j) {post : Outcome × zS → Prop} (h1 : ∀ G1 : zS, (zTK [57] mSd S G1) → (gI G1 57 1592 = 0) → (∀ j, j < 32 → gA G1 1595 j = hSha n f j) → zEv d 111 21 [.ref 1592, .int (Int32.ofNat 3), .int (Int32.ofNat 0)] [] G1 post) : zCall d 111 [.ref 1592, .int 3] S post := by
  have ht : ztab 111 = ztb111 := rfl
  show zEv d 111 0 [.ref 1592, .int 3, .retAddr 0] [] S post
  refine zv_c1 ht rfl rfl (zv_c1 ht rfl rfl ?_)
  refine zv_br ht rfl rfl rfl (fun _ => ?_) (fun h => absurd (by decide) h)
  refine zv_c1 ht rfl rfl ?_
  refine zv_cl ht rfl rfl rfl rfl (by omega) (Nat.le_of_ble_eq_true rfl) (m_sha (n := n) (f := f) (S := S) hF (by omega) hc (by omega) h_sayings hf (fun G1 kG1 sG1 eG1 => ?_))
  show zEv d 111 14 [.ref 1592, .int 3, .retAddr 0] [] G1 post
  refine zv_c1 ht rfl rfl ?_
  refine zv_br ht rfl rfl rfl (fun _ => ?_) (fun h => absurd (by decide) h)
  refine zv_c1 ht rfl rfl ?_
  refine zv_c2 (L' := [.ref 1592, .int 3, .int 0]) ht rfl rfl ?_
  exact (h1 G1 kG1 sG1 eG1)

theorem hsl {d : Nat} {S : zS} (hF : zFin true S) (hd : 1 ≤ d) {n : Nat} (k : Nat) (s : Int32)  (h_sayings : gI S 57 1592 = Int32.ofNat n) (hk : k < 32) (hn : n ≤ 128) {post : Outcome × zS → Prop} (h1 : zEv d 111 21 [.ref 1592, .int s, .int (Int32.ofNat (k + 1))] [] (sI (sA S 1594 n ((gA S 1595 k) &&& (255 : Int32))) 57 1592 (Int32.ofNat (n + 1))) post) : zEv d 111 21 [.ref 1592, .int s, .int (Int32.ofNat k)] [] S post := by
  have ht : ztab 111 = ztb111 := rfl
  refine zv_c1 ht rfl rfl (zv_c1 ht rfl rfl ?_)
  refine zv_br ht rfl rfl rfl (fun b1 => (show False from by have hq := b1; have hz : 32 ≤ k := (zi_leE (a := 32) (b := k) rfl rfl (by omega) (by omega)).mp hq; omega).elim) (fun b1 => ?_)
  refine zv_c1 ht rfl rfl (zv_c1 ht rfl rfl ?_)
  refine zv_gl (st' := [.ref 1595, .ref 1592]) ht rfl hF rfl rfl rfl ?_
  refine zv_c1 ht rfl rfl ?_
  refine zv_iaE (j := k) (x := gA S 1595 k) ht rfl rfl rfl rfl (zi_natE (a := k) rfl (by omega)) ⟨(Or.inl rfl), zi_inE (a := k) (n := 32) rfl (by omega) (by omega)⟩ rfl ?_
  have C3 : ∀ (pst2 : Outcome × zS → Prop), (pst2 (.returned none, sI (sA S 1594 n ((gA S 1595 k) &&& (255 : Int32))) 57 1592 (Int32.ofNat (n + 1)))) → zCall (d - 1) 104 [.ref 1592, .int (gA S 1595 k)] S pst2 := by
    intro pst2 k5
    have ht4 : ztab 104 = ztb104 := rfl
    show zEv (d - 1) 104 0 [.ref 1592, .int (gA S 1595 k)] [] S pst2
    refine zv_c1 ht4 rfl rfl ?_
    refine zv_gl (st' := [.ref 1594]) ht4 rfl hF rfl rfl rfl ?_
    refine zv_c1 ht4 rfl rfl ?_
    refine zv_e1 (x := Int32.ofNat n) ht4 rfl rfl h_sayings ?_
    refine zv_c1 ht4 rfl rfl (zv_c1 ht4 rfl rfl ?_)
    refine zv_c1 (st' := [.int ((gA S 1595 k) &&& (255 : Int32)), .int (Int32.ofNat n), .ref 1594]) (S' := S) ht4 rfl rfl ?_
    refine zv_is (j := n) (x := (gA S 1595 k) &&& (255 : Int32)) ht4 rfl rfl rfl rfl (zi_natE (a := n) rfl (by omega)) ⟨rfl, zi_inE (a := n) (n := 256) rfl (by omega) (by omega)⟩ ?_
    refine zv_c1 ht4 rfl rfl (zv_c1 ht4 rfl rfl ?_)
    refine zv_e1 (x := Int32.ofNat n) ht4 rfl rfl h_sayings ?_
    refine zv_c1 ht4 rfl rfl ?_
    refine zv_e1 (x := Int32.ofNat (n + 1)) ht4 rfl rfl (zi_addE (a := n) (b := 1) rfl rfl) ?_
    refine zv_c1 (S' := sI (sA S 1594 n ((gA S 1595 k) &&& (255 : Int32))) 57 1592 (Int32.ofNat (n + 1))) ht4 rfl rfl ?_
    exact zv_rt ht4 rfl rfl rfl rfl k5
  refine zv_cl ht rfl rfl rfl rfl (by omega) (Nat.le_of_ble_eq_true rfl) (C3 _ ?_)
  show zEv d 111 37 [.ref 1592, .int s, .int (Int32.ofNat k)] [] (sI (sA S 1594 n ((gA S 1595 k) &&& (255 : Int32))) 57 1592 (Int32.ofNat (n + 1))) post
  refine zv_iinc (L' := [.ref 1592, .int s, .int (Int32.ofNat (k + 1))]) (i := 2) (x := Int32.ofNat (k + 1)) ht rfl rfl (zi_addE (a := k) (b := 1) rfl rfl) rfl ?_
  refine zv_c1 ht rfl rfl ?_
  exact h1

theorem hsl1 {d : Nat} {S : zS} (hF : zFin true S) (hd : 3 ≤ d) {n : Nat} {f : Nat → Int32}  (h_sayings : gI S 57 1592 = Int32.ofNat n) (hn : n ≤ 128) (hc : mC S) (hf : ∀ j, j < n → gA S 1594 j = f j) {post : Outcome × zS → Prop} (h1 : ∀ G1 : zS, (zTK [57] mSd S G1) → (gI G1 57 1592 = 0) → (∀ j, j < 32 → gA G1 1595 j = hSha n f j) → post (.returned none, G1)) : zEv d 111 21 [.ref 1592, .int 1, .int 32] [] S post := by
  have ht : ztab 111 = ztb111 := rfl
  refine zv_c1 ht rfl rfl (zv_c1 ht rfl rfl ?_)
  refine zv_br ht rfl rfl rfl (fun _ => ?_) (fun h => absurd (by decide) h)
  refine zv_c1 ht rfl rfl (zv_c1 ht rfl rfl ?_)
  refine zv_br ht rfl rfl rfl (fun h => absurd h (by decide)) (fun _ => ?_)
  refine zv_c1 ht rfl rfl ?_
  refine zv_cl ht rfl rfl rfl rfl (by omega) (Nat.le_of_ble_eq_true rfl) (m_sha (n := n) (f := f) (S := S) hF (by omega) hc (by omega) h_sayings hf (fun G1 kG1 sG1 eG1 => ?_))
  show zEv d 111 52 [.ref 1592, .int 1, .int 32] [] G1 post
  refine zv_c1 ht rfl rfl ?_
  exact zv_rt ht rfl rfl rfl rfl (h1 G1 kG1 sG1 eG1)

theorem hsl3 {d : Nat} {S : zS} (hF : zFin true S) (hd : 4 ≤ d) {n : Nat} {f : Nat → Int32}  (h_sayings : gI S 57 1592 = Int32.ofNat n) (hn : n ≤ 128) (hc : mC S) (hf : ∀ j, j < n → gA S 1594 j = f j) {post : Outcome × zS → Prop} (h1 : ∀ G1 : zS, (zTK [57] mSd S G1) → (gI G1 57 1592 = 0) → (∀ j, j < 20 → gA G1 1595 j = hRip n f j) → post (.returned none, G1)) : zEv d 111 21 [.ref 1592, .int 3, .int 32] [] S post := by
  have ht : ztab 111 = ztb111 := rfl
  refine zv_c1 ht rfl rfl (zv_c1 ht rfl rfl ?_)
  refine zv_br ht rfl rfl rfl (fun _ => ?_) (fun h => absurd (by decide) h)
  refine zv_c1 ht rfl rfl (zv_c1 ht rfl rfl ?_)
  refine zv_br ht rfl rfl rfl (fun _ => ?_) (fun h => absurd (by decide) h)
  refine zv_c1 ht rfl rfl ?_
  refine zv_cl ht rfl rfl rfl rfl (by omega) (Nat.le_of_ble_eq_true rfl) (m_ripemd (n := n) (f := f) (S := S) hF (by omega) hc (by omega) h_sayings hf (fun G1 kG1 sG1 eG1 => ?_))
  show zEv d 111 59 [.ref 1592, .int 3, .int 32] [] G1 post
  exact zv_rt ht rfl rfl rfl rfl (h1 G1 kG1 sG1 eG1)

section H4
variable {d : Nat} {post : Outcome × zS → Prop}
theorem hSha_255 (n : Nat) (f : Nat → Int32) (j : Nat) : hSha n f j &&& 255 = hSha n f j := by
  unfold hSha
  rw [Int32.and_assoc]
  congr 1
/-- said once more: what a hash was -/
theorem hs_again {S : zS} (hF : zFin true S) (hd : 1 ≤ d) (s : Int32) {n : Nat} {f : Nat → Int32} (h0 : gI S 57 1592 = 0) (he : ∀ j, j < 32 → gA S 1595 j = hSha n f j)
    (h : ∀ S', zTK [57] mSd S S' → gI S' 57 1592 = Int32.ofNat 32 → (∀ j, j < 32 → gA S' 1594 j = hSha n f j) → zEv d 111 21 [.ref 1592, .int s, .int (Int32.ofNat 32)] [] S' post) : zEv d 111 21 [.ref 1592, .int s, .int (Int32.ofNat 0)] [] S post := by
  have key := zLoopE (d := d) (post := post) (me := 111) (pc := 21) 0 32 (fun k => sI (sAr S 1594 0 k (hSha n f)) 57 1592 (Int32.ofNat k)) (fun k => [.ref 1592, .int s, .int (Int32.ofNat k)]) ?_ ?_ (by omega)
  · have e : sI (sAr S 1594 0 0 (hSha n f)) 57 1592 (Int32.ofNat 0) = S := by rw [sAr_zero]; exact sI_self h0
    simp only [e] at key
    exact key
  · intro k _ hk ih
    refine hsl (S := sI (sAr S 1594 0 k (hSha n f)) 57 1592 (Int32.ofNat k)) (n := k) hF hd k s rfl hk (by omega) ?_
    have e : gA (sI (sAr S 1594 0 k (hSha n f)) 57 1592 (Int32.ofNat k)) 1595 k = hSha n f k := he k hk
    have := @sAr_say S 1594 0 k 57 (hSha n f) (Int32.ofNat k) (Int32.ofNat (k + 1))
    rw [Nat.zero_add] at this
    rw [e, hSha_255, this]
    exact ih
  · exact h _ ((zTK_sAr (by decide)).tr (zTK_sI (by decide))) rfl (fun j hj => gA_sAr0 hj)
/-- the twin's hashes -/
theorem m_hashes (s : Nat) (hs4 : s < 4) {n : Nat} {f : Nat → Int32} {S : zS} (hF : zFin true S) (hd : 4 ≤ d) (hc : mC S) (hn : n ≤ 128) (hs : gI S 57 1592 = Int32.ofNat n) (hf : ∀ j, j < n → gA S 1594 j = f j)
    (h : ∀ S', zTK [57] mSd S S' → gI S' 57 1592 = 0 → (∀ j, j < hSz s → gA S' 1595 j = hBy s n f j) → post (.returned none, S')) : zCall d 111 [.ref 1592, .int (Int32.ofNat s)] S post := by
  have : s = 0 ∨ s = 1 ∨ s = 2 ∨ s = 3 := by omega
  rcases this with rfl | rfl | rfl | rfl
  · exact hs0 hF (by omega) hs hn hc hf (fun G kG sG eG => h G kG sG eG)
  · refine hs1 hF (by omega) hs hn hc hf (fun G kG sG eG => ?_)
    refine hs_again (kG.fin hF) (by omega) _ sG eG (fun S' k2 s2 e2 => ?_)
    refine hsl1 ((kG.tr k2).fin hF) (by omega) s2 (by omega) (hc.k (kG.tr k2) (by decide)) e2 (fun G' kG' sG' eG' => ?_)
    exact h G' ((kG.tr k2).tr kG') sG' eG'
  · exact hs2 hF (by omega) hs hn hc hf (fun G kG sG eG => h G kG sG eG)
  · refine hs3 hF (by omega) hs hn hc hf (fun G kG sG eG => ?_)
    refine hs_again (kG.fin hF) (by omega) _ sG eG (fun S' k2 s2 e2 => ?_)
    refine hsl3 ((kG.tr k2).fin hF) (by omega) s2 (by omega) (hc.k (kG.tr k2) (by decide)) e2 (fun G' kG' sG' eG' => ?_)
    exact h G' ((kG.tr k2).tr kG') sG' eG'
end H4
/-- a secret's bytes; a key's -/
def sB (h j : Nat) : Int32 := Int32.ofNat ((31 * h + 7 * j + 5) % 256)
def kB (k j : Nat) : Int32 := if j = 0 then 2 else hSha 1 (fun _ => Int32.ofNat (65 + k)) (j - 1)
theorem kB_255 (k j : Nat) : kB k j &&& 255 = kB k j := by
  unfold kB
  by_cases h : j = 0
  · rw [if_pos h]; rfl
  · rw [if_neg h]; exact hSha_255 _ _ _
def mKs (S : zS) : Prop := ∀ k, k < 16 → ∀ j, j < 33 → gA S 1607 (33 * k + j) = kB k j
theorem se0 {d : Nat} {S : zS} (hF : zFin true S) (s h : Nat)   {post : Outcome × zS → Prop} (h1 : zEv d 117 2 [.ref 1592, .int (Int32.ofNat s), .int (Int32.ofNat h), .int (Int32.ofNat 0)] [] S post) : zCall d 117 [.ref 1592, .int (Int32.ofNat s), .int (Int32.ofNat h)] S post := by
  have ht : ztab 117 = ztb117 := rfl
  show zEv d 117 0 [.ref 1592, .int (Int32.ofNat s), .int (Int32.ofNat h), .retAddr 0] [] S post
  refine zv_c1 ht rfl rfl ?_
  refine zv_c2 (L' := [.ref 1592, .int (Int32.ofNat s), .int (Int32.ofNat h), .int 0]) ht rfl rfl ?_
  exact h1

theorem se1 {d : Nat} {S : zS} (hF : zFin true S) (hd : 1 ≤ d) {n : Nat} (s h k : Nat)  (h_sayings : gI S 57 1592 = Int32.ofNat n) (hk : k < 32) (hn : n ≤ 128) (hh : h < 8) {post : Outcome × zS → Prop} (h1 : zEv d 117 2 [.ref 1592, .int (Int32.ofNat s), .int (Int32.ofNat h), .int (Int32.ofNat (k + 1))] [] (sI (sA S 1594 n ((Int32.ofNat ((((31 * h) + (7 * k)) + 5) % 256)) &&& (255 : Int32))) 57 1592 (Int32.ofNat (n + 1))) post) : zEv d 117 2 [.ref 1592, .int (Int32.ofNat s), .int (Int32.ofNat h), .int (Int32.ofNat k)] [] S post := by
  have ht : ztab 117 = ztb117 := rfl
  refine zv_c1 ht rfl rfl (zv_c1 ht rfl rfl ?_)
  refine zv_br ht rfl rfl rfl (fun b1 => (show False from by have hq := b1; have hz : 32 ≤ k := (zi_leE (a := 32) (b := k) rfl rfl (by omega) (by omega)).mp hq; omega).elim) (fun b1 => ?_)
  refine zv_c1 ht rfl rfl (zv_c1 ht rfl rfl (zv_c1 ht rfl rfl ?_))
  have C3 : ∀ (pst2 : Outcome × zS → Prop), (pst2 (.returned (some (.int (Int32.ofNat ((((31 * h) + (7 * k)) + 5) % 256)))), S)) → zCall (d - 1) 118 [.int (Int32.ofNat h), .int (Int32.ofNat k)] S pst2 := by
    intro pst2 k5
    have ht4 : ztab 118 = ztb118 := rfl
    show zEv (d - 1) 118 0 [.int (Int32.ofNat h), .int (Int32.ofNat k)] [] S pst2
    refine zv_c1 ht4 rfl rfl (zv_c1 ht4 rfl rfl ?_)
    refine zv_e1 (x := Int32.ofNat (31 * h)) ht4 rfl rfl (zi_mulE (a := 31) (b := h) rfl rfl) ?_
    refine zv_c1 ht4 rfl rfl (zv_c1 ht4 rfl rfl ?_)
    refine zv_e1 (x := Int32.ofNat (7 * k)) ht4 rfl rfl (zi_mulE (a := 7) (b := k) rfl rfl) ?_
    refine zv_e1 (x := Int32.ofNat ((31 * h) + (7 * k))) ht4 rfl rfl (zi_addE (a := 31 * h) (b := 7 * k) rfl rfl) ?_
    refine zv_c1 ht4 rfl rfl ?_
    refine zv_e1 (x := Int32.ofNat (((31 * h) + (7 * k)) + 5)) ht4 rfl rfl (zi_addE (a := (31 * h) + (7 * k)) (b := 5) rfl rfl) ?_
    refine zv_c1 ht4 rfl rfl ?_
    refine zv_ei (x := Int32.ofNat ((((31 * h) + (7 * k)) + 5) % 256)) ht4 rfl rfl (zi_nz (a := 256) rfl (by omega) (by omega)) (zi_remE (a := (((31 * h) + (7 * k)) + 5)) (b := 256) rfl rfl (by omega) (by omega)) ?_
    exact zv_rt ht4 rfl rfl rfl rfl k5
  refine zv_cl ht rfl rfl rfl rfl (by omega) (Nat.le_of_ble_eq_true rfl) (C3 _ ?_)
  show zEv d 117 14 [.ref 1592, .int (Int32.ofNat s), .int (Int32.ofNat h), .int (Int32.ofNat k)] [.int (Int32.ofNat ((((31 * h) + (7 * k)) + 5) % 256)), .ref 1592] S post
  have C7 : ∀ (pst6 : Outcome × zS → Prop), (pst6 (.returned none, sI (sA S 1594 n ((Int32.ofNat ((((31 * h) + (7 * k)) + 5) % 256)) &&& (255 : Int32))) 57 1592 (Int32.ofNat (n + 1)))) → zCall (d - 1) 104 [.ref 1592, .int (Int32.ofNat ((((31 * h) + (7 * k)) + 5) % 256))] S pst6 := by
    intro pst6 k9
    have ht8 : ztab 104 = ztb104 := rfl
    show zEv (d - 1) 104 0 [.ref 1592, .int (Int32.ofNat ((((31 * h) + (7 * k)) + 5) % 256))] [] S pst6
    refine zv_c1 ht8 rfl rfl ?_
    refine zv_gl (st' := [.ref 1594]) ht8 rfl hF rfl rfl rfl ?_
    refine zv_c1 ht8 rfl rfl ?_
    refine zv_e1 (x := Int32.ofNat n) ht8 rfl rfl h_sayings ?_
    refine zv_c1 ht8 rfl rfl (zv_c1 ht8 rfl rfl ?_)
    refine zv_c1 (st' := [.int ((Int32.ofNat ((((31 * h) + (7 * k)) + 5) % 256)) &&& (255 : Int32)), .int (Int32.ofNat n), .ref 1594]) (S' := S) ht8 rfl rfl ?_
    refine zv_is (j := n) (x := (Int32.ofNat ((((31 * h) + (7 * k)) + 5) % 256)) &&& (255 : Int32)) ht8 rfl rfl rfl rfl (zi_natE (a := n) rfl (by omega)) ⟨rfl, zi_inE (a := n) (n := 256) rfl (by omega) (by omega)⟩ ?_
    refine zv_c1 ht8 rfl rfl (zv_c1 ht8 rfl rfl ?_)
    refine zv_e1 (x := Int32.ofNat n) ht8 rfl rfl h_sayings ?_
    refine zv_c1 ht8 rfl rfl ?_
    refine zv_e1 (x := Int32.ofNat (n + 1)) ht8 rfl rfl (zi_addE (a := n) (b := 1) rfl rfl) ?_
    refine zv_c1 (S' := sI (sA S 1594 n ((Int32.ofNat ((((31 * h) + (7 * k)) + 5) % 256)) &&& (255 : Int32))) 57 1592 (Int32.ofNat (n + 1))) ht8 rfl rfl ?_
    exact zv_rt ht8 rfl rfl rfl rfl k9
  refine zv_cl ht rfl rfl rfl rfl (by omega) (Nat.le_of_ble_eq_true rfl) (C7 _ ?_)
  show zEv d 117 17 [.ref 1592, .int (Int32.ofNat s), .int (Int32.ofNat h), .int (Int32.ofNat k)] [] (sI (sA S 1594 n ((Int32.ofNat ((((31 * h) + (7 * k)) + 5) % 256)) &&& (255 : Int32))) 57 1592 (Int32.ofNat (n + 1))) post
  refine zv_iinc (L' := [.ref 1592, .int (Int32.ofNat s), .int (Int32.ofNat h), .int (Int32.ofNat (k + 1))]) (i := 3) (x := Int32.ofNat (k + 1)) ht rfl rfl (zi_addE (a := k) (b := 1) rfl rfl) rfl ?_
  refine zv_c1 ht rfl rfl ?_
  exact h1

theorem se2 {d : Nat} {S : zS} (hF : zFin true S) (hd : 5 ≤ d) {n : Nat} {f : Nat → Int32} (s h : Nat)  (h_sayings : gI S 57 1592 = Int32.ofNat n) (hn : n ≤ 128) (hc : mC S) (hf : ∀ j, j < n → gA S 1594 j = f j) (hs4 : s < 4) {post : Outcome × zS → Prop} (h1 : ∀ G1 : zS, (zTK [57] mSd S G1) → (gI G1 57 1592 = 0) → (∀ j, j < hSz s → gA G1 1595 j = hBy s n f j) → post (.returned none, G1)) : zEv d 117 2 [.ref 1592, .int (Int32.ofNat s), .int (Int32.ofNat h), .int 32] [] S post := by
  have ht : ztab 117 = ztb117 := rfl
  refine zv_c1 ht rfl rfl (zv_c1 ht rfl rfl ?_)
  refine zv_br ht rfl rfl rfl (fun _ => ?_) (fun h => absurd (by decide) h)
  refine zv_c1 ht rfl rfl (zv_c1 ht rfl rfl ?_)
  refine zv_cl ht rfl rfl rfl rfl (by omega) (Nat.le_of_ble_eq_true rfl) (m_hashes s (by omega) (n := n) (f := f) (S := S) hF (by omega) hc (by omega) h_sayings hf (fun G1 kG1 sG1 eG1 => ?_))
  show zEv d 117 28 [.ref 1592, .int (Int32.ofNat s), .int (Int32.ofNat h), .int 32] [] G1 post
  exact zv_rt ht rfl rfl rfl rfl (h1 G1 kG1 sG1 eG1)

theorem ke0 {d : Nat} {S : zS} (hF : zFin true S) (h : Nat)   {post : Outcome × zS → Prop} (h1 : zEv d 110 2 [.ref 1592, .int (Int32.ofNat h), .int (Int32.ofNat 0)] [] S post) : zCall d 110 [.ref 1592, .int (Int32.ofNat h)] S post := by
  have ht : ztab 110 = ztb110 := rfl
  show zEv d 110 0 [.ref 1592, .int (Int32.ofNat h), .retAddr 0] [] S post
  refine zv_c1 ht rfl rfl ?_
  refine zv_c2 (L' := [.ref 1592, .int (Int32.ofNat h), .int 0]) ht rfl rfl ?_
  exact h1

theorem ke1 {d : Nat} {S : zS} (hF : zFin true S) (hd : 1 ≤ d) {n : Nat} (h k : Nat)  (h_sayings : gI S 57 1592 = Int32.ofNat n) (hk : k < 33) (hn : n ≤ 128) (hh : h < 16) {post : Outcome × zS → Prop} (h1 : zEv d 110 2 [.ref 1592, .int (Int32.ofNat h), .int (Int32.ofNat (k + 1))] [] (sI (sA S 1594 n ((gA S 1607 ((33 * h) + k)) &&& (255 : Int32))) 57 1592 (Int32.ofNat (n + 1))) post) : zEv d 110 2 [.ref 1592, .int (Int32.ofNat h), .int (Int32.ofNat k)] [] S post := by
  have ht : ztab 110 = ztb110 := rfl
  refine zv_c1 ht rfl rfl (zv_c1 ht rfl rfl ?_)
  refine zv_br ht rfl rfl rfl (fun b1 => (show False from by have hq := b1; have hz : 33 ≤ k := (zi_leE (a := 33) (b := k) rfl rfl (by omega) (by omega)).mp hq; omega).elim) (fun b1 => ?_)
  refine zv_c1 ht rfl rfl (zv_c1 ht rfl rfl ?_)
  refine zv_gl (st' := [.ref 1607, .ref 1592]) ht rfl hF rfl rfl rfl ?_
  refine zv_c1 ht rfl rfl (zv_c1 ht rfl rfl ?_)
  refine zv_e1 (x := Int32.ofNat (33 * h)) ht rfl rfl (zi_mulE (a := 33) (b := h) rfl rfl) ?_
  refine zv_c1 ht rfl rfl ?_
  refine zv_e1 (x := Int32.ofNat ((33 * h) + k)) ht rfl rfl (zi_addE (a := 33 * h) (b := k) rfl rfl) ?_
  refine zv_iaE (j := (33 * h) + k) (x := gA S 1607 ((33 * h) + k)) ht rfl rfl rfl rfl (zi_natE (a := (33 * h) + k) rfl (by omega)) ⟨(Or.inl rfl), zi_inE (a := (33 * h) + k) (n := 528) rfl (by omega) (by omega)⟩ rfl ?_
  have C3 : ∀ (pst2 : Outcome × zS → Prop), (pst2 (.returned none, sI (sA S 1594 n ((gA S 1607 ((33 * h) + k)) &&& (255 : Int32))) 57 1592 (Int32.ofNat (n + 1)))) → zCall (d - 1) 104 [.ref 1592, .int (gA S 1607 ((33 * h) + k))] S pst2 := by
    intro pst2 k5
    have ht4 : ztab 104 = ztb104 := rfl
    show zEv (d - 1) 104 0 [.ref 1592, .int (gA S 1607 ((33 * h) + k))] [] S pst2
    refine zv_c1 ht4 rfl rfl ?_
    refine zv_gl (st' := [.ref 1594]) ht4 rfl hF rfl rfl rfl ?_
    refine zv_c1 ht4 rfl rfl ?_
    refine zv_e1 (x := Int32.ofNat n) ht4 rfl rfl h_sayings ?_
    refine zv_c1 ht4 rfl rfl (zv_c1 ht4 rfl rfl ?_)
    refine zv_c1 (st' := [.int ((gA S 1607 ((33 * h) + k)) &&& (255 : Int32)), .int (Int32.ofNat n), .ref 1594]) (S' := S) ht4 rfl rfl ?_
    refine zv_is (j := n) (x := (gA S 1607 ((33 * h) + k)) &&& (255 : Int32)) ht4 rfl rfl rfl rfl (zi_natE (a := n) rfl (by omega)) ⟨rfl, zi_inE (a := n) (n := 256) rfl (by omega) (by omega)⟩ ?_
    refine zv_c1 ht4 rfl rfl (zv_c1 ht4 rfl rfl ?_)
    refine zv_e1 (x := Int32.ofNat n) ht4 rfl rfl h_sayings ?_
    refine zv_c1 ht4 rfl rfl ?_
    refine zv_e1 (x := Int32.ofNat (n + 1)) ht4 rfl rfl (zi_addE (a := n) (b := 1) rfl rfl) ?_
    refine zv_c1 (S' := sI (sA S 1594 n ((gA S 1607 ((33 * h) + k)) &&& (255 : Int32))) 57 1592 (Int32.ofNat (n + 1))) ht4 rfl rfl ?_
    exact zv_rt ht4 rfl rfl rfl rfl k5
  refine zv_cl ht rfl rfl rfl rfl (by omega) (Nat.le_of_ble_eq_true rfl) (C3 _ ?_)
  show zEv d 110 23 [.ref 1592, .int (Int32.ofNat h), .int (Int32.ofNat k)] [] (sI (sA S 1594 n ((gA S 1607 ((33 * h) + k)) &&& (255 : Int32))) 57 1592 (Int32.ofNat (n + 1))) post
  refine zv_iinc (L' := [.ref 1592, .int (Int32.ofNat h), .int (Int32.ofNat (k + 1))]) (i := 2) (x := Int32.ofNat (k + 1)) ht rfl rfl (zi_addE (a := k) (b := 1) rfl rfl) rfl ?_
  refine zv_c1 ht rfl rfl ?_
  exact h1

theorem ke2 {d : Nat} {S : zS} (hF : zFin true S) (hd : 5 ≤ d) {n : Nat} {f : Nat → Int32} (h : Nat)  (h_sayings : gI S 57 1592 = Int32.ofNat n) (hn : n ≤ 128) (hc : mC S) (hf : ∀ j, j < n → gA S 1594 j = f j) {post : Outcome × zS → Prop} (h1 : ∀ G1 : zS, (zTK [57] mSd S G1) → (gI G1 57 1592 = 0) → (∀ j, j < hSz 3 → gA G1 1595 j = hBy 3 n f j) → post (.returned none, G1)) : zEv d 110 2 [.ref 1592, .int (Int32.ofNat h), .int 33] [] S post := by
  have ht : ztab 110 = ztb110 := rfl
  refine zv_c1 ht rfl rfl (zv_c1 ht rfl rfl ?_)
  refine zv_br ht rfl rfl rfl (fun _ => ?_) (fun h => absurd (by decide) h)
  refine zv_c1 ht rfl rfl (zv_c1 ht rfl rfl ?_)
  refine zv_cl ht rfl rfl rfl rfl (by omega) (Nat.le_of_ble_eq_true rfl) (m_hashes 3 (by omega) (n := n) (f := f) (S := S) hF (by omega) hc (by omega) h_sayings hf (fun G1 kG1 sG1 eG1 => ?_))
  show zEv d 110 34 [.ref 1592, .int (Int32.ofNat h), .int 33] [] G1 post
  exact zv_rt ht rfl rfl rfl rfl (h1 G1 kG1 sG1 eG1)

section H4b
variable {d : Nat} {post : Outcome × zS → Prop}
theorem m_secretHash (s h0 : Nat) (hs4 : s < 4) (hh : h0 < 8) {S : zS} (hF : zFin true S) (hd : 5 ≤ d) (hc : mC S) (hs : gI S 57 1592 = 0)
    (h : ∀ S', zTK [57] mSd S S' → gI S' 57 1592 = 0 → (∀ j, j < hSz s → gA S' 1595 j = hBy s 32 (sB h0) j) → post (.returned none, S')) : zCall d 117 [.ref 1592, .int (Int32.ofNat s), .int (Int32.ofNat h0)] S post := by
  refine se0 hF s h0 ?_
  have key := zLoopE (d := d) (post := post) (me := 117) (pc := 2) 0 32 (fun k => sI (sAr S 1594 0 k (sB h0)) 57 1592 (Int32.ofNat k)) (fun k => [.ref 1592, .int (Int32.ofNat s), .int (Int32.ofNat h0), .int (Int32.ofNat k)]) ?_ ?_ (by omega)
  · have e : sI (sAr S 1594 0 0 (sB h0)) 57 1592 (Int32.ofNat 0) = S := by rw [sAr_zero]; exact sI_self hs
    simp only [e] at key
    exact key
  · intro k _ hk ih
    refine se1 (S := sI (sAr S 1594 0 k (sB h0)) 57 1592 (Int32.ofNat k)) (n := k) hF (by omega) s h0 k rfl hk (by omega) hh ?_
    have := @sAr_say S 1594 0 k 57 (sB h0) (Int32.ofNat k) (Int32.ofNat (k + 1))
    rw [Nat.zero_add] at this
    rw [zi_255 (Nat.mod_lt _ (by decide))]
    exact Eq.mpr (congrArg (fun zz => zEv d 117 2 [.ref 1592, .int (Int32.ofNat s), .int (Int32.ofNat h0), .int (Int32.ofNat (k + 1))] [] zz post) this) ih
  · have k1 : zTK [57] mSd S (sI (sAr S 1594 0 32 (sB h0)) 57 1592 (Int32.ofNat 32)) := (zTK_sAr (by decide)).tr (zTK_sI (by decide))
    exact se2 (S := sI (sAr S 1594 0 32 (sB h0)) 57 1592 (Int32.ofNat 32)) (f := sB h0) hF (by omega) s h0 rfl (by omega) (hc.k k1 (by decide)) (fun j hj => gA_sAr0 hj) hs4 (fun G kG sG eG => h G (k1.tr kG) sG eG)
theorem m_keyHash (h0 : Nat) (hh : h0 < 16) {S : zS} (hF : zFin true S) (hd : 5 ≤ d) (hc : mC S) (hk : mKs S) (hs : gI S 57 1592 = 0)
    (h : ∀ S', zTK [57] mSd S S' → gI S' 57 1592 = 0 → (∀ j, j < 20 → gA S' 1595 j = hBy 3 33 (kB h0) j) → post (.returned none, S')) : zCall d 110 [.ref 1592, .int (Int32.ofNat h0)] S post := by
  refine ke0 hF h0 ?_
  have key := zLoopE (d := d) (post := post) (me := 110) (pc := 2) 0 33 (fun k => sI (sAr S 1594 0 k (kB h0)) 57 1592 (Int32.ofNat k)) (fun k => [.ref 1592, .int (Int32.ofNat h0), .int (Int32.ofNat k)]) ?_ ?_ (by omega)
  · have e : sI (sAr S 1594 0 0 (kB h0)) 57 1592 (Int32.ofNat 0) = S := by rw [sAr_zero]; exact sI_self hs
    simp only [e] at key
    exact key
  · intro k _ hk1 ih
    refine ke1 (S := sI (sAr S 1594 0 k (kB h0)) 57 1592 (Int32.ofNat k)) (n := k) hF (by omega) h0 k rfl hk1 (by omega) hh ?_
    have e : gA (sI (sAr S 1594 0 k (kB h0)) 57 1592 (Int32.ofNat k)) 1607 (33 * h0 + k) = kB h0 k := hk h0 hh k hk1
    have := @sAr_say S 1594 0 k 57 (kB h0) (Int32.ofNat k) (Int32.ofNat (k + 1))
    rw [Nat.zero_add] at this
    rw [e, kB_255, this]
    exact ih
  · have k1 : zTK [57] mSd S (sI (sAr S 1594 0 33 (kB h0)) 57 1592 (Int32.ofNat 33)) := (zTK_sAr (by decide)).tr (zTK_sI (by decide))
    exact ke2 (S := sI (sAr S 1594 0 33 (kB h0)) 57 1592 (Int32.ofNat 33)) (f := kB h0) hF (by omega) h0 rfl (by omega) (hc.k k1 (by decide)) (fun j hj => gA_sAr0 hj) (fun G kG sG eG => h G (k1.tr kG) sG eG)
end H4b

