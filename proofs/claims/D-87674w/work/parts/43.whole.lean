/-! ===== the law, from the abstract machine's run ===== -/
theorem zW_whole {p : Program} {e : Env} {s : State} {m : MethodId} {below : List Frame} {meth : Method} {c : Code} (l : Launch) (hflags : l.flags = flags0) {b L : Nat} {xs : Nat → Int32} (C0 : lw_At p s m meth c b L xs) {n d : Nat} {x : Outcome × zS}
    (hrun : zrun n d 444 0 (zpad [.ref (zLB + 1003)] 4) [] (zS0 L xs) = some x) (hret : x.1 = .returned (some (.int 1))) (hN : gN x.2 ≤ 1015780) (hZ : gZ x.2 ≤ 6054140) (hd : d ≤ 2000) :
    W p l e room_1 s m #[Value.ref b] below meth c s.heap [] 0 0 (lw_Z below #[Value.ref b] s) (entryFrame m ([Value.ref b] : List Value).toArray 4) := by
  obtain ⟨hx, hb, hr, hml, hown, hts, hX, hbl, hlocks, hgv⟩ := C0
  have hl0 : l.stackTraces = false := by
    unfold Launch.stackTraces
    rw [hflags]
    decide +kernel
  have hall : ∀ w ∈ lw_all, w.before #[Value.ref b] s = true := fun w hw => hts w (List.mem_filter.mp hw).1
  obtain ⟨oa, D, dA, hC, ho⟩ := zStart hts hgv hX hbl
  have hF : zFix p 444 s m #[Value.ref b] meth c := ⟨hx, hb, hml, hown, hall, fun h => absurd h (by decide), hlocks, hr, fun _ h => absurd rfl h, fun h => absurd h (by decide)⟩
  have hI := zS0_inv L xs
  have hva : zvs (zS0 L xs) [.ref (zLB + 1003)] := fun v hv => by
    rcases List.mem_cons.mp hv with rfl | hv
    · exact Or.inr (Nat.le_add_right _ _)
    · cases hv
  have hH : zHp s.heap.size (zad s.heap.size oa) D dA s.heap (zS0 L xs) s.heap := ⟨rfl, by show 0 < zLB; decide, fun k hk => absurd hk (Nat.not_lt_zero k), fun q _ => rfl, fun k hk => absurd hk (Nat.not_lt_zero k), fun k hk => absurd hk (Nat.not_lt_zero k)⟩
  have ead : zad s.heap.size oa (zLB + 1003) = b := by
    unfold zad
    rw [if_neg (by omega)]
    exact ho
  have hl := lv_entry (([.ref (zLB + 1003)] : List Value).map (zcv (zad s.heap.size oa))) (n := 4) (by rw [zlg_len]; decide)
  have hsnd := zsnd_all hl0 (b := s.heap.size) (oa := oa) (D := D) (dA := dA) (H0 := s.heap) n d 444 0 _ [] _ x hrun p e s m #[Value.ref b] below meth c s.heap [] _ 0 0 hF (fun _ i h => by rw [hret] at h; cases h) hC hI (hva.pad _) (fun v hv => by cases hv) hH va_S.rf (zlv_less hl (zpad_args _ _ 0)) (Nat.le_refl _) (Nat.le_refl _)
  have e1 : ([Value.ref b] : List Value) = ([.ref (zLB + 1003)] : List Value).map (zcv (zad s.heap.size oa)) := by
    show _ = [Value.ref (zad s.heap.size oa (zLB + 1003))]
    rw [ead]
  have e2 : entryFrame m ([Value.ref b] : List Value).toArray 4 = F0 m 0 ((lg_sl (([.ref (zLB + 1003)] : List Value).map (zcv (zad s.heap.size oa))) ++ List.replicate (4 - (lg_sl (([.ref (zLB + 1003)] : List Value).map (zcv (zad s.heap.size oa)))).length) Slot.unset).toArray) [] := by
    rw [e1, lg_entry_eq]
  rw [e2]
  intro T hT X
  have hroom : s.hasRoom e.platform (zRm d (gN x.2 - 0) (gZ x.2 - 0)) = true := by
    have h := X.room
    simp only [State.hasRoom, Bool.and_eq_true, decide_eq_true_eq] at h ⊢
    obtain ⟨⟨⟨⟨h1, h2, h3, h4, h5, h6⟩, h7⟩, h8⟩, h9⟩ := h
    have r1 : room_1.frames = 8192 := rfl
    have r2 : room_1.locals = 100000 := rfl
    have r3 : room_1.cells = 1015780 := rfl
    have r4 : room_1.slots = 6054140 := rfl
    have z1 : (zRm d (gN x.2 - 0) (gZ x.2 - 0)).frames = d + 4 := rfl
    have z2 : (zRm d (gN x.2 - 0) (gZ x.2 - 0)).locals = 40 * d + 100 := rfl
    have z3 : (zRm d (gN x.2 - 0) (gZ x.2 - 0)).cells = gN x.2 := rfl
    have z4 : (zRm d (gN x.2 - 0) (gZ x.2 - 0)).slots = gZ x.2 := rfl
    rw [r1] at h2 h3
    rw [r2] at h1 h4 h5
    rw [r3] at h7
    rw [r4] at h8
    rw [z1, z2, z3, z4]
    exact ⟨⟨⟨⟨by omega, by omega, by omega, by omega, by omega, h6⟩, by omega⟩, by omega⟩, h9⟩
  have X' : Stand p l e (zRm d (gN x.2 - 0) (gZ x.2 - 0)) s m #[Value.ref b] below meth c T [] 0 0 := { X with room := hroom }
  obtain ⟨t, a1, o, b1, b2, b3⟩ := hsnd T hT X'
  refine ⟨t, a1, o, b1, b2, ?_⟩
  rcases b3 with ⟨⟨⟨v, hv, hov⟩, -, -⟩, Ls, hFE, hfree⟩ | ⟨q, -, E, ce, Ls, ⟨i, hi, -⟩, -⟩
  · rw [hret] at hv
    cases hv
    refine ⟨hov, ?_⟩
    obtain ⟨f1, f2, f3⟩ := hFE
    refine ⟨f1, f2, ?_⟩
    have f4 := State.sameButNew.drop_fresh (L := []) (J := Ls) f3 (fun y hy => hfree y hy)
    exact f4.mono (by omega) (by omega)
  · rw [hret] at hi
    cases hi
