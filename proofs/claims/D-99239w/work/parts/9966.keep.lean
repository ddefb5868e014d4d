set_option maxRecDepth 100000
/-! ===== one more deed is kept ===== -/
theorem cw_S.kp {h h2 : nd_H} (H : cw_S h) (f : ∀ a, cw_sc a → h2[a]? = h[a]?) : cw_S h2 := by
  obtain ⟨b1, ⟨tl, b2⟩, ⟨n2, fr, bk, fo, mn, c1, c2, c3, c4⟩, ⟨cf, c5⟩⟩ := H
  refine ⟨fun k hk => ?_, ⟨tl, (f _ (by unfold cw_sc; omega)).trans b2⟩, ⟨n2, fr, bk, fo, mn, (f _ (by unfold cw_sc; omega)).trans c1, (f _ (by unfold cw_sc; omega)).trans c2, (f _ (by unfold cw_sc; omega)).trans c3, (f _ (by unfold cw_sc; omega)).trans c4⟩, ⟨cf, (f _ (by unfold cw_sc; omega)).trans c5⟩⟩
  obtain ⟨w, hi, co, d1, d2, d3, d4⟩ := b1 k hk
  exact ⟨w, hi, co, (f _ (by unfold cw_sc; omega)).trans d1, (f _ (by unfold cw_sc; omega)).trans d2, fun t ht => (f _ (by unfold cw_sc; omega)).trans (d3 t ht), (f _ (by unfold cw_sc; omega)).trans d4⟩
theorem cw_K.keep {o o2 : Nat → Nat} {nap D : Nat} {ds : List Nat} {gi : Nat → Value} {dss : Nat → List Nat} {S : sy_S} {h h2 : nd_H} (H : cw_K o nap ds gi dss S h) (hD : 123 ≤ D) (hDo : ∀ i, i < 8 → o (D + i) = 20 + D) (hDn : D ∉ ds ++ (dss 0 ++ (dss 1 ++ dss 2))) (hoo : ∀ a, o a ≠ 0 → o2 a = o a) (ho2 : ∀ a, o2 a ≠ 0 → a < h2.length ∧ ((2 ≤ a ∧ a ≤ 5) ∨ 123 ≤ a)) (hf : ∀ a, a < h.length → a ≠ 90 → o a ≠ 2 → o a ≠ 20 + D → h2[a]? = h[a]?) (hs : cs_st h2 D nap (sy_c S)) (hl : cw_l o2 h2 90 2 (ds ++ [D])) : cw_K o2 nap (ds ++ [D]) gi dss (sy_set S (sy_N S, sy_c S, sy_d S ++ [sy_c S])) h2 := by
  have H0 := H
  obtain ⟨⟨x, a1⟩, a2, ⟨c1, c2, c3, c4, c5⟩, a4, a5, a6, a7, a8, a9, a11, a12⟩ := H
  have kf : ∀ a c, h[a]? = some c → a ≠ 90 → o a ≠ 2 → o a ≠ 20 + D → h2[a]? = some c := fun a c e z1 z2 z3 => (hf a (nd_get_lt e) z1 z2 z3).trans e
  have lo : ∀ a, a < 123 → ¬ (2 ≤ a ∧ a ≤ 5) → o a = 0 := fun a ha z1 => by
    by_cases z : o a = 0
    · exact z
    · have := (a12 a z).2
      omega
  have kl : ∀ a c, h[a]? = some c → a < 123 → ¬ (2 ≤ a ∧ a ≤ 5) → a ≠ 90 → h2[a]? = some c := fun a c e z1 z2 z3 => kf a c e z3 (by rw [lo a z1 z2]; omega) (by rw [lo a z1 z2]; omega)
  rw [List.mem_append, not_or] at hDn
  rw [List.nodup_append] at a6
  refine H0.mv hoo ho2 ⟨x, kl _ _ a1 (by omega) (by omega) (by omega)⟩ (fun a c e z => ?_) ⟨c1.kp (fun a ha => (a12 a ha).1) hoo (fun a c z e => kf a c e (by have := a12 a (by omega); omega) (by omega) (by omega)), c2.kp (fun i c hi hi2 e => kl _ c e (by omega) (by omega) (by omega)), hl, ?_, fun i hi => ?_⟩ ?_
  · rcases z with z | z | z | z | z | ⟨b, z1, z2⟩
    · exact kl a c e (by omega) (by omega) (by omega)
    · exact kl a c e (by omega) (by omega) (by omega)
    · exact kl a c e (by omega) (by omega) (by omega)
    · exact kf a c e (by have := a12 a (by omega); omega) (by omega) (by omega)
    · exact kf a c e (by have := a12 a (by omega); omega) (by omega) (by omega)
    · have : b ≠ D := fun q => hDn.2 (q ▸ z1)
      exact kf a c e (by have := a12 a (by omega); omega) (by omega) (by omega)
  · rw [List.length_append, List.length_append, c4]; rfl
  · rw [List.length_append] at hi
    have hi : i < ds.length + 1 := hi
    by_cases z : i < ds.length
    · have hm : ds.getD i 0 ∈ ds := by
        rw [List.getD_eq_getElem?_getD, List.getElem?_eq_getElem z]
        exact List.getElem_mem z
      have hne : ds.getD i 0 ≠ D := fun q => hDn.1 (q ▸ hm)
      have e1 : (ds ++ [D]).getD i 0 = ds.getD i 0 := by rw [List.getD_eq_getElem?_getD, List.getElem?_append_left z, ← List.getD_eq_getElem?_getD]
      have e2 : (sy_d S ++ [sy_c S]).getD i ([], [], []) = (sy_d S).getD i ([], [], []) := by rw [List.getD_eq_getElem?_getD, List.getElem?_append_left (by rw [← c4]; exact z), ← List.getD_eq_getElem?_getD]
      show cw_b o2 h2 nap ((ds ++ [D]).getD i 0) ((sy_d S ++ [sy_c S]).getD i ([], [], []))
      rw [e1, e2]
      exact (c5 i z).kp hoo (fun b c z e => kf b c e (by have := a12 b (by omega); omega) (by omega) (by omega))
    · have zi : i = ds.length := by omega
      subst zi
      have e1 : (ds ++ [D]).getD ds.length 0 = D := by rw [List.getD_eq_getElem?_getD, List.getElem?_append_right (Nat.le_refl _), Nat.sub_self]; rfl
      have e2 : (sy_d S ++ [sy_c S]).getD ds.length ([], [], []) = sy_c S := by rw [c4, List.getD_eq_getElem?_getD, List.getElem?_append_right (Nat.le_refl _), Nat.sub_self]; rfl
      show cw_b o2 h2 nap ((ds ++ [D]).getD ds.length 0) ((sy_d S ++ [sy_c S]).getD ds.length ([], [], []))
      rw [e1, e2]
      exact ⟨hD, fun i hi => by rw [hoo _ (by rw [hDo i hi]; omega)]; exact hDo i hi, hs⟩
  · rw [List.append_assoc, List.nodup_append]
    refine ⟨a6.1, List.nodup_cons.2 ⟨hDn.2, a6.2.1⟩, fun a ha b hb => ?_⟩
    rcases List.mem_cons.1 hb with z | z
    · subst z; exact fun q => hDn.1 (q ▸ ha)
    · exact a6.2.2 a ha b z

