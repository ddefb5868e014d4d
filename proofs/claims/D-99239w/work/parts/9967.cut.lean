set_option maxRecDepth 100000
/-! ===== deeds are cut, the state alone changes, a new block ===== -/
theorem cw_K.lo {o : Nat → Nat} {nap : Nat} {ds : List Nat} {gi : Nat → Value} {dss : Nat → List Nat} {S : sy_S} {h : nd_H} (H : cw_K o nap ds gi dss S h) {a : Nat} (ha : a < 123) (h2 : ¬ (2 ≤ a ∧ a ≤ 5)) : o a = 0 := by
  obtain ⟨-, -, -, -, -, -, -, -, -, -, a12⟩ := H
  by_cases z : o a = 0
  · exact z
  · have := (a12 a z).2
    omega
theorem cw_K.cut {o : Nat → Nat} {nap : Nat} {ds ds2 : List Nat} {dd2 : List sv} {gi : Nat → Value} {dss : Nat → List Nat} {S : sy_S} {h h2 : nd_H} (H : cw_K o nap ds gi dss S h) (hlen : h2.length = h.length) (hf : ∀ a, a ≠ 90 → o a ≠ 2 → h2[a]? = h[a]?) (hl : cw_l o h2 90 2 ds2) (hsub : List.Sublist ds2 ds) (hln : ds2.length = dd2.length) (hix : ∀ i, i < ds2.length → ∃ j, j < ds.length ∧ ds2.getD i 0 = ds.getD j 0 ∧ dd2.getD i ([], [], []) = (sy_d S).getD j ([], [], [])) : cw_K o nap ds2 gi dss (sy_set S (sy_N S, sy_c S, dd2)) h2 := by
  have H0 := H
  obtain ⟨⟨x, a1⟩, a2, ⟨c1, c2, c3, c4, c5⟩, a4, a5, a6, a7, a8, a9, a11, a12⟩ := H
  have kf : ∀ a c, h[a]? = some c → a ≠ 90 → o a ≠ 2 → h2[a]? = some c := fun a c e z1 z2 => (hf a z1 z2).trans e
  have kl : ∀ a c, h[a]? = some c → a < 123 → ¬ (2 ≤ a ∧ a ≤ 5) → a ≠ 90 → h2[a]? = some c := fun a c e z1 z2 z3 => kf a c e z3 (by rw [H0.lo z1 z2]; omega)
  have ko : ∀ a c, h[a]? = some c → o a ≠ 0 → o a ≠ 2 → h2[a]? = some c := fun a c e z1 z2 => kf a c e (by have := a12 a z1; omega) z2
  refine H0.mv (fun _ _ => rfl) (fun a ha => by rw [hlen]; exact a12 a ha) ⟨x, kl _ _ a1 (by omega) (by omega) (by omega)⟩ (fun a c e z => ?_) ⟨c1.kp (fun a ha => (a12 a ha).1) (fun _ _ => rfl) (fun a c z e => ko a c e (by omega) (by omega)), c2.kp (fun i c hi hi2 e => kl _ c e (by omega) (by omega) (by omega)), hl, hln, fun i hi => ?_⟩ (List.Sublist.nodup (List.Sublist.append hsub (List.Sublist.refl _)) a6)
  · rcases z with z | z | z | z | z | ⟨b, z1, z2⟩
    · exact kl a c e (by omega) (by omega) (by omega)
    · exact kl a c e (by omega) (by omega) (by omega)
    · exact kl a c e (by omega) (by omega) (by omega)
    · exact ko a c e (by omega) (by omega)
    · exact ko a c e (by omega) (by omega)
    · exact ko a c e (by omega) (by omega)
  · obtain ⟨j, j1, j2, j3⟩ := hix i hi
    show cw_b o h2 nap (ds2.getD i 0) (dd2.getD i ([], [], []))
    rw [j2, j3]
    exact (c5 j j1).kp (fun _ _ => rfl) (fun b c z e => ko b c e (by omega) (by omega))
/-- the state alone -/
theorem cw_K.st {o : Nat → Nat} {nap : Nat} {ds : List Nat} {s2 : sv} {gi : Nat → Value} {dss : Nat → List Nat} {S : sy_S} {h h2 : nd_H} (H : cw_K o nap ds gi dss S h) (f : cs_fr 1 h h2) (hs : cs_st h2 1 nap s2) : cw_K o nap ds gi dss (sy_set S (sy_N S, s2, sy_d S)) h2 := by
  have H0 := H
  obtain ⟨⟨x, a1⟩, a2, ⟨c1, c2, c3, c4, c5⟩, a4, a5, a6, a7, a8, a9, a11, a12⟩ := H
  have kf : ∀ a c, h[a]? = some c → ¬ (a = 1 ∨ (6 ≤ a ∧ a < 9)) → h2[a]? = some c := fun a c e z1 => (f.2 a (by omega)).trans e
  have ko : ∀ a c, h[a]? = some c → o a ≠ 0 → h2[a]? = some c := fun a c e z1 => kf a c e (by have := a12 a z1; omega)
  refine H0.mv (fun _ _ => rfl) (fun a ha => by rw [f.1]; exact a12 a ha) ⟨x, kf _ _ a1 (by omega)⟩ (fun a c e z => ?_) ⟨c1.kp (fun a ha => (a12 a ha).1) (fun _ _ => rfl) (fun a c z e => ko a c e (by omega)), hs, c3.kp (by omega) (fun _ _ => rfl) (fun c e => kf _ c e (by omega)) (fun a c z e => ko a c e (by omega)), c4, fun i hi => (c5 i hi).kp (fun _ _ => rfl) (fun b c z e => ko b c e (by omega))⟩ a6
  rcases z with z | z | z | z | z | ⟨b, z1, z2⟩
  · exact kf a c e (by omega)
  · exact kf a c e (by omega)
  · exact kf a c e (by omega)
  · exact ko a c e (by omega)
  · exact ko a c e (by omega)
  · exact ko a c e (by omega)
/-- owners, with a new stretch -/
def ow (o : Nat → Nat) (L n τ : Nat) : Nat → Nat := fun a => if L ≤ a ∧ a < L + n then τ else o a
theorem cw_K.own {o : Nat → Nat} {nap L n τ : Nat} {ds : List Nat} {gi : Nat → Value} {dss : Nat → List Nat} {S : sy_S} {h h2 : nd_H} (H : cw_K o nap ds gi dss S h) (hf : cw_f h h2) (h1 : h.length ≤ L) (h3 : L + n ≤ h2.length) (h123 : 123 ≤ L) : cw_K (ow o L n τ) nap ds gi dss S h2 := by
  have H0 := H.f hf
  have H1 := H0
  obtain ⟨x, a2, ⟨c1, c2, c3, c4, c5⟩, a4, a5, a6, a7, a8, a9, a11, a12⟩ := H0
  obtain ⟨-, -, -, -, -, -, -, -, -, -, b12⟩ := H
  have hoo : ∀ a, o a ≠ 0 → ow o L n τ a = o a := fun a ha => by
    have := b12 a ha
    unfold ow
    rw [if_neg (by omega)]
  exact H1.mv hoo (fun a ha => by
    unfold ow at ha
    by_cases z : L ≤ a ∧ a < L + n
    · omega
    · rw [if_neg z] at ha
      exact a12 a ha) x (fun a c e _ => e) ⟨c1.kp (fun a ha => (a12 a ha).1) hoo (fun a c z e => e), c2, c3.kp (by omega) hoo (fun c e => e) (fun a c z e => e), c4, fun i hi => (c5 i hi).kp hoo (fun b c z e => e)⟩ a6

