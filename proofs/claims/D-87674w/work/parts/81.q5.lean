set_option maxRecDepth 100000
/-! ===== the twin makes nodes, and puts one into another ===== -/
section Q5
variable {d : Nat} {post : Outcome × zS → Prop} {tp : Nat → Nat} {sz : Nat}
def lst : Nat → List Nat → Nat
  | k, [] => k
  | _, j :: js => lst j js
theorem lst_mem : ∀ (js : List Nat) (k : Nat), lst k js ∈ k :: js := by
  intro js
  induction js with
  | nil => intro k; exact List.mem_cons_self
  | cons j js ih => intro k; exact List.mem_cons_of_mem _ (ih j)
theorem mCh_app {S : zS} {c : Nat} (hc : c < 3000) (hcn : gA S 1613 c = -1) : ∀ (js : List Nat) (k : Nat), (k :: js).Nodup → c ∉ k :: js → mCh S (Int32.ofNat k) (k :: js) → mCh (sA S 1613 (lst k js) (Int32.ofNat c)) (Int32.ofNat k) (k :: js ++ [c]) := by
  intro js
  induction js with
  | nil =>
    intro k hnd hck h
    have hk : c ≠ k := fun e => hck (by rw [e]; exact List.mem_cons_self)
    exact ⟨rfl, h.2.1, gA_sA_at, hc, (gA_sA_nj hk).trans hcn⟩
  | cons j js ih =>
    intro k hnd hck h
    have hkl : k ≠ lst j js := fun e => (List.nodup_cons.mp hnd).1 (by rw [e]; exact lst_mem js j)
    have h3 : mCh S (gA S 1613 k) (j :: js) := h.2.2
    have e : gA S 1613 k = Int32.ofNat j := h3.1
    rw [e] at h3
    have := ih j (List.nodup_cons.mp hnd).2 (fun x => hck (List.mem_cons_of_mem _ x)) h3
    refine ⟨rfl, h.2.1, ?_⟩
    show mCh (sA S 1613 (lst j js) (Int32.ofNat c)) (gA (sA S 1613 (lst j js) (Int32.ofNat c)) 1613 k) (j :: js ++ [c])
    rw [gA_sA_nj hkl, e]
    exact this
theorem m_adopts {S : zS} (hF : zFin true S) {n c : Nat} {js : List Nat} (hn : n < 3000) (hc : c < 3000) (hm1 : js.length < 100) (hm : gA S 1614 n = Int32.ofNat js.length) (hch : mCh S (gA S 1612 n) js) (hnd : js.Nodup) (hcj : c ∉ js)
    (h : ∀ S', zFin true S' → zTK [] [1614, 1613, 1612] S S' → (∀ j, j ≠ n → gA S' 1614 j = gA S 1614 j ∧ gA S' 1612 j = gA S 1612 j) → (∀ j, j ∉ c :: js → gA S' 1613 j = gA S 1613 j) → gA S' 1614 n = Int32.ofNat (js ++ [c]).length → mCh S' (gA S' 1612 n) (js ++ [c]) → post (.returned none, S')) : zCall d 154 [.ref 1592, .int (Int32.ofNat n), .int (Int32.ofNat c)] S post := by
  cases js with
  | nil =>
    refine ad0 hF n c 0 hn hc (by omega) hm hch ?_
    refine h _ hF (((zTK_sA (by decide)).tr (zTK_sA (by decide))).tr (zTK_sA (by decide))) (fun j hj => ⟨?_, ?_⟩) (fun j hj => ?_) ?_ ?_
    · show gA (sA S 1614 n _) 1614 j = _; exact gA_sA_nj hj
    · exact (gA_sA_nj hj).trans rfl
    · show gA (sA (sA S 1614 n _) 1613 c _) 1613 j = _; exact (gA_sA_nj (fun e => hj (by rw [e]; exact List.mem_cons_self))).trans rfl
    · show gA (sA S 1614 n _) 1614 n = _; exact gA_sA_at
    · rw [gA_sA_at]
      refine ⟨rfl, hc, ?_⟩
      show gA (sA (sA S 1614 n _) 1613 c _) 1613 c = _
      exact gA_sA_at
  | cons f js =>
    refine ad1 hF n c (f :: js).length f hn hc hm1 hch.2.1 hm hch.1 ?_
    generalize hS1 : sA (sA S 1614 n (Int32.ofNat ((f :: js).length + 1))) 1613 c (-1) = S1
    have hF1 : zFin true S1 := by rw [← hS1]; exact hF
    have hcn : gA S1 1613 c = -1 := by rw [← hS1]; exact gA_sA_at
    have hk1 : zTK [] [1614, 1613, 1612] S S1 := by rw [← hS1]; exact (zTK_sA (by decide)).tr (zTK_sA (by decide))
    have hm2 : gA S1 1614 n = Int32.ofNat ((f :: js).length + 1) := by rw [← hS1]; show gA (sA S 1614 n _) 1614 n = _; exact gA_sA_at
    have hm3 : ∀ j, j ≠ n → gA S1 1614 j = gA S 1614 j := by intro j hj; rw [← hS1]; show gA (sA S 1614 n _) 1614 j = _; exact gA_sA_nj hj
    have hf1 : ∀ j, gA S1 1612 j = gA S 1612 j := by intro j; rw [← hS1]; rfl
    have hx1 : ∀ j, j ≠ c → gA S1 1613 j = gA S 1613 j := by intro j hj; rw [← hS1]; exact (gA_sA_nj hj).trans rfl
    have hch1 : mCh S1 (Int32.ofNat f) (f :: js) := by
      have := hch.eq (S' := S1) (fun j hj => hx1 j (fun e => hcj (e ▸ hj)))
      rw [hch.1] at this; exact this
    have key : ∀ (js2 : List Nat) (k : Nat), k < 3000 → mCh S1 (gA S1 1613 k) js2 → post (.returned none, sA S1 1613 (lst k js2) (Int32.ofNat c)) → zEv d 154 42 [.ref 1592, .retAddr 0, .int (Int32.ofNat c), .int (Int32.ofNat k)] [] S1 post := by
      intro js2
      induction js2 with
      | nil => intro k hk h1 h2; exact ad3 hF1 c k hc hk h1 h2
      | cons j js2 ih => intro k hk h1 h2; exact ad2 hF1 c k j hc hk h1.2.1 h1.1 (ih j h1.2.1 h1.2.2 h2)
    refine key js f hch.2.1 hch1.2.2 ?_
    have hl := lst_mem js f
    refine h _ hF1 (hk1.tr (zTK_sA (by decide))) (fun j hj => ⟨hm3 j hj, hf1 j⟩) (fun j hj => ?_) ?_ ?_
    · rw [gA_sA_nj (fun e => hj (by rw [e]; exact List.mem_cons_of_mem _ hl))]
      exact hx1 j (fun e => hj (by rw [e]; exact List.mem_cons_self))
    · show gA S1 1614 n = _; rw [hm2]; simp
    · show mCh _ (gA S1 1612 n) _
      rw [hf1 n, hch.1]
      exact mCh_app hc hcn js f hnd hcj hch1
end Q5

