set_option maxRecDepth 100000
/-! ===== deeds: what can be undone ===== -/
def sv_keep (ds : List sv) (s : sv) : List sv := (if ds.length = 10 then ds.tail else ds) ++ [s]
theorem mo_sv_mv {k k2 : Nat → Int32} {o o2 n : Nat} {s : sv} (hs : sv_ok n s) (hn : n ≤ 6) (h : mo_sv k o s) (e : ∀ j, j < 18 → k2 (o2 + j) = k (o + j)) : mo_sv k2 o2 s := by
  have h5 := lk_val_le hn hs.1
  have h2 := hs.2.1
  have h3 := hs.2.2.1
  refine ⟨?_, fun i hi => ?_, fun c hc => ?_, fun c hc => ?_⟩
  · have := e 0 (by omega); rw [Nat.add_zero, Nat.add_zero] at this; rw [this]; exact h.1
  · have := e (1 + i) (by omega); rw [← Nat.add_assoc, ← Nat.add_assoc] at this; rw [this]; exact h.2.1 i hi
  · have := e (6 + c) (by omega); rw [← Nat.add_assoc, ← Nat.add_assoc] at this; rw [this]; exact h.2.2.1 c hc
  · have := e (12 + c) (by omega); rw [← Nat.add_assoc, ← Nat.add_assoc] at this; rw [this]; exact h.2.2.2 c hc
theorem mo_lw_congr {k k2 : Nat → Int32} {many at_ : Nat} {p : List Nat} (h : mo_lw k many at_ p) (e0 : k2 many = k many) (e : ∀ i, i < p.length → k2 (at_ + i) = k (at_ + i)) : mo_lw k2 many at_ p := ⟨e0.trans h.1, fun i hi => (e i hi).trans (h.2 i hi)⟩
/-- the napkin's part of the row -/
theorem mo_nap_congr {k k2 : Nat → Int32} {N : nk_N} (hN : nk_ok N) (h : mo_nap k N) (e : ∀ i, (i < 6 ∨ (25 ≤ i ∧ i < 29) ∨ (209 ≤ i ∧ i < 2912)) → k2 i = k i) : mo_nap k2 N := by
  obtain ⟨h1, h2, h3, h4, h5, h6, h7⟩ := h
  have w4 := hN.2.2.1
  have l1 := hN.2.2.2.2.2.1
  have l2 := hN.2.2.2.2.2.2.2.1
  have l3 := hN.2.2.2.2.2.2.2.2.2
  exact ⟨(e 0 (by omega)).trans h1, (e 1 (by omega)).trans h2, (e 2 (by omega)).trans h3, fun i hi => (e _ (by omega)).trans (h4 i hi), mo_lw_congr h5 (e 3 (by omega)) (fun i hi => e _ (by omega)), mo_lw_congr h6 (e 4 (by omega)) (fun i hi => e _ (by omega)), mo_lw_congr h7 (e 5 (by omega)) (fun i hi => e _ (by omega))⟩
theorem mo_kn_congr {k k2 : Nat → Int32} {P : sy_P} (hP : sp_ok P) (h : mo_kn k P) (e : ∀ i, i < 2912 → k2 i = k i) : mo_kn k2 P := by
  have hn := hP.1.1
  have h10 := hP.2.2.1
  refine ⟨mo_nap_congr hP.1 h.1 (fun i hi => e i (by omega)), mo_sv_mv hP.2.1 hn h.2.1 (fun j hj => e _ (by omega)), (e 6 (by omega)).trans h.2.2.1, fun i hi => ?_⟩
  refine mo_sv_mv (n := nk_n P.1) ?_ hn (h.2.2.2 i hi) (fun j hj => e _ (by omega))
  have : P.2.2.getD i ([], [], []) ∈ P.2.2 := by
    rw [List.getD_eq_getElem?_getD, List.getElem?_eq_getElem hi]; exact List.getElem_mem _
  exact hP.2.2.2 _ this

