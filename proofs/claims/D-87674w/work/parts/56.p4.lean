set_option maxRecDepth 100000
/-! ===== texts ===== -/
theorem j_charAtL {d : Nat} {S : zS} (hF : zFin true S) (hd : 2 ≤ d) {v i c : Nat} (h1 : ztyp S v = 101 ∨ ztyp S v = 121) (hi : i < zlen S v) (hn : zlen S v < 1000000) (hb : gA S v i = Int32.ofNat c) (hc : c < 128) {post : Outcome × zS → Prop} (h : post (.returned (some (.int (Int32.ofNat c))), S)) : zCall d 399 [.ref v, .int (Int32.ofNat i)] S post := by
  refine j399 hF hd h1 i hi hn ?_ ?_
  · rw [hb, zi_255 (by omega), zi_i2c (by omega), zi_i2c (by omega)]
  · rw [hb, zi_255 (by omega), zi_i2c (by omega)]; exact h
theorem j385 {d : Nat} {S : zS} (hF : zFin true S) (hd : 3 ≤ d) {s v : Nat} (h22 : ztyp S s = 22) (hv : gP S 199 s = some v) (hc : gI S 200 s = 0) (hvt : ztyp S v = 101 ∨ ztyp S v = 121) {i c : Nat} (hi : i < zlen S v) (hn : zlen S v < 1000000) (hb : gA S v i = Int32.ofNat c) (hcc : c < 128) {post : Outcome × zS → Prop} (s1 : ((Int32.ofNat c).toUInt32 % 65536).toInt32 = Int32.ofNat c) (h2 : post (.returned (some (.int (Int32.ofNat c))), S)) : zCall d 385 [.ref s, .int (Int32.ofNat i)] S post := by
  have ht : ztab 385 = ztb385 := rfl
  show zEv d 385 0 [.ref s, .int (Int32.ofNat i)] [] S post
  refine zv_c1 ht rfl rfl ?_
  refine zv_cl ht rfl rfl rfl (zv_tgv h22 rfl) (by omega) (Nat.le_of_ble_eq_true rfl) (j386 (S := S) hF h22 hv hc  ?_)
  show zEv d 385 4 [.ref s, .int (Int32.ofNat i)] [.int 1] S post
  refine zv_br ht rfl rfl rfl (fun h => absurd h (by decide)) (fun _ => ?_)
  refine zv_c1 ht rfl rfl ?_
  refine zv_g3 (q := v) ht rfl hF rfl rfl (zhas_of h22 rfl) hv ?_
  refine zv_c1 ht rfl rfl ?_
  refine zv_cl ht rfl rfl rfl rfl (by omega) (Nat.le_of_ble_eq_true rfl) (j_charAtL (S := S) hF (by omega) hvt (by omega) (by omega) hb hcc  ?_)
  show zEv d 385 15 [.ref s, .int (Int32.ofNat i)] [.int (Int32.ofNat c)] S post
  exact zv_rc ht rfl rfl rfl rfl s1 h2

theorem j392 {d : Nat} {S : zS} (hF : zFin true S) (hd : 1 ≤ d) {s v : Nat} (h22 : ztyp S s = 22) (hv : gP S 199 s = some v) (hc : gI S 200 s = 0) (hvt : ztyp S v = 101 ∨ ztyp S v = 121)  {post : Outcome × zS → Prop} (h1 : post (.returned (some (.int ((Int32.ofNat (zlen S v)) >>> (0 &&& 31) : Int32))), S)) : zCall d 392 [.ref s] S post := by
  have ht : ztab 392 = ztb392 := rfl
  show zEv d 392 0 [.ref s] [] S post
  refine zv_c1 ht rfl rfl ?_
  refine zv_g3 (q := v) ht rfl hF rfl rfl (zhas_of h22 rfl) hv ?_
  refine zv_ci (st' := [.int (Int32.ofNat (zlen S v))]) ht rfl rfl (zv_l2 hvt) ?_
  refine zv_c1 ht rfl rfl ?_
  refine zv_cl ht rfl rfl rfl (zv_tgv h22 rfl) (by omega) (Nat.le_of_ble_eq_true rfl) (j393 (S := S) hF h22 hv hc  ?_)
  show zEv d 392 9 [.ref s] [.int 0, .int (Int32.ofNat (zlen S v))] S post
  refine zv_c1 ht rfl rfl ?_
  exact zv_rt ht rfl rfl rfl rfl h1

/-- a text: its letters, all of seven bits -/
def zStr (S : zS) (s : Nat) (cs : List Nat) : Prop := ∃ v, ztyp S s = 22 ∧ gP S 199 s = some v ∧ gI S 200 s = 0 ∧ (ztyp S v = 101 ∨ ztyp S v = 121) ∧ zlen S v = cs.length ∧ (∀ j, j < cs.length → gA S v j = Int32.ofNat (cs.getD j 0)) ∧ (∀ c ∈ cs, c < 128) ∧ cs.length < 100000
theorem getD_mem {cs : List Nat} {i : Nat} (h : i < cs.length) : cs.getD i 0 ∈ cs := by
  rw [List.getD_eq_getElem?_getD, List.getElem?_eq_getElem h]
  exact List.getElem_mem h
theorem j_charAt {d : Nat} {S : zS} (hF : zFin true S) (hd : 3 ≤ d) {s : Nat} {cs : List Nat} (hs : zStr S s cs) {i : Nat} (hi : i < cs.length) {post : Outcome × zS → Prop} (h : post (.returned (some (.int (Int32.ofNat (cs.getD i 0)))), S)) : zCall d 385 [.ref s, .int (Int32.ofNat i)] S post := by
  obtain ⟨v, h22, hv, hc, h1, hl, hb, h7, hn⟩ := hs
  exact j385 hF hd h22 hv hc h1 (by omega) (by omega) (hb i hi) (h7 _ (getD_mem hi)) (by rw [zi_i2c]; have := h7 _ (getD_mem hi); omega) h
theorem j_length {d : Nat} {S : zS} (hF : zFin true S) (hd : 1 ≤ d) {s : Nat} {cs : List Nat} (hs : zStr S s cs) {post : Outcome × zS → Prop} (h : post (.returned (some (.int (Int32.ofNat cs.length))), S)) : zCall d 392 [.ref s] S post := by
  obtain ⟨v, h22, hv, hc, h1, hl, hb, h7, hn⟩ := hs
  refine j392 hF hd h22 hv hc h1 ?_
  have e : Int32.ofNat (zlen S v) >>> (0 &&& 31) = Int32.ofNat cs.length := by
    rw [hl]
    have : ((0 : Int32) &&& 31) = 0 := by decide
    rw [this]
    exact Int32.shiftRight_zero
  rw [e]
  exact h

