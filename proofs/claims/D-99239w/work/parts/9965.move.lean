set_option maxRecDepth 100000
/-! ===== the world moves: deeds and state anew, the rest kept ===== -/
theorem cn_N.o2 {o o2 : Nat → Nat} {h : nd_H} {nap : Nat} {N : nk_N} (f : ∀ a, o a = 1 → o2 a = 1) (hN : cn_N o h nap N) : cn_N o2 h nap N := by
  obtain ⟨fa, ba, ga, m, ed, wv, kv, hv, o1, o2, e1, e2, ⟨l1, l2, l3⟩, e4, e5, e6⟩ := hN
  refine ⟨fa, ba, ga, m, ed, wv, kv, hv, f _ o1, f _ o2, e1, e2, ⟨f _ l1, l2, ?_⟩, ?_, ?_, ?_⟩
  · rcases l3 with l3 | ⟨ed, gf, l4, l5⟩
    · exact Or.inl l3
    · exact Or.inr ⟨ed, gf, f _ l4, l5⟩
  · rcases e4 with e4 | ⟨hn, a, f1, g1, g2, g3⟩
    · exact Or.inl e4
    · exact Or.inr ⟨hn, a, f1, g1, g2, g3.o2 f⟩
  · rcases e5 with e4 | ⟨hn, a, F, f1, g1, g2, g3⟩
    · exact Or.inl e4
    · exact Or.inr ⟨hn, a, F, f1, g1, g2, g3.o2 f⟩
  · rcases e6 with e4 | ⟨hn, a, f1, g1, g2, g3⟩
    · exact Or.inl e4
    · exact Or.inr ⟨hn, a, f1, g1, g2, g3.o2 f⟩
theorem cs_st.kp {h h2 : nd_H} {a nap : Nat} {s : sv} (H : cs_st h a nap s) (f : ∀ i c, i < 8 → (i = 0 ∨ 5 ≤ i) → h[a + i]? = some c → h2[a + i]? = some c) : cs_st h2 a nap s := by
  obtain ⟨fr, bk, fo, mn, ⟨a1, a2, a3, a4⟩, hv⟩ := H
  exact ⟨fr, bk, fo, mn, ⟨f 0 _ (by omega) (by omega) a1, f 5 _ (by omega) (by omega) a2, f 6 _ (by omega) (by omega) a3, f 7 _ (by omega) (by omega) a4⟩, hv⟩
theorem cw_b.kp {o o2 : Nat → Nat} {h h2 : nd_H} {nap a : Nat} {s : sv} (H : cw_b o h nap a s) (hoo : ∀ a, o a ≠ 0 → o2 a = o a) (f : ∀ b c, o b = 20 + a → h[b]? = some c → h2[b]? = some c) : cw_b o2 h2 nap a s := by
  obtain ⟨a1, a2, a3⟩ := H
  exact ⟨a1, fun i hi => by rw [hoo _ (by rw [a2 i hi]; omega)]; exact a2 i hi, a3.kp (fun i c hi _ e => f _ c (a2 i hi) e)⟩
theorem cw_l.kp {o o2 : Nat → Nat} {h h2 : nd_H} {dl τ : Nat} {ds : List Nat} (H : cw_l o h dl τ ds) (hτ : 1 ≤ τ) (hoo : ∀ a, o a ≠ 0 → o2 a = o a) (fd : ∀ c, h[dl]? = some c → h2[dl]? = some c) (f : ∀ b c, o b = τ → h[b]? = some c → h2[b]? = some c) : cw_l o2 h2 dl τ ds := by
  rcases H with ⟨a1, m, a2⟩ | ⟨m, ed, gf, a1, a2, a3, a4, a5, a6⟩
  · exact Or.inl ⟨a1, m, fd _ a2⟩
  · exact Or.inr ⟨m, ed, gf, by rw [hoo _ (by omega)]; exact a1, a2, fd _ a3, f _ _ a1 a4, a5, a6⟩
theorem cn_N.kp {o o2 : Nat → Nat} {h h2 : nd_H} {nap : Nat} {N : nk_N} (H : cn_N o h nap N) (hol : ∀ a, o a ≠ 0 → a < h.length) (hoo : ∀ a, o a ≠ 0 → o2 a = o a) (f : ∀ b c, o b = 1 → h[b]? = some c → h2[b]? = some c) : cn_N o2 h2 nap N := by
  have k : fk o h h2 := fun a ha => by
    have l : a < h.length := hol a (by omega)
    have e : h[a]? = some h[a] := List.getElem?_eq_getElem l
    rw [f a _ ha e, e]
  exact (H.k k).o2 (fun a ha => by rw [hoo a (by omega)]; exact ha)
theorem cw_im.kp {o o2 : Nat → Nat} {h h2 : nd_H} {i : Nat} {v : Value} {q : Option sy_P} {ds : List Nat} (H : cw_im o h i v q ds) (hol : ∀ a, o a ≠ 0 → a < h.length) (hoo : ∀ a, o a ≠ 0 → o2 a = o a) (f : ∀ a c, h[a]? = some c → (o a = 1 ∨ o a = 10 + i ∨ ∃ b ∈ ds, o a = 20 + b) → h2[a]? = some c) : cw_im o2 h2 i v q ds := by
  unfold cw_im at H ⊢
  cases q with
  | none => exact H
  | some P =>
    obtain ⟨b, nap, b1, b2, b3, b4, c1, c2, c3, c4, c5⟩ := H
    have b30 : o b = 10 + i := b3 0 (by omega)
    refine ⟨b, nap, b1, b2, fun j hj => by rw [hoo _ (by rw [b3 j hj]; omega)]; exact b3 j hj, f _ _ b4 (Or.inr (Or.inl b30)), c1.kp hol hoo (fun a c z e => f a c e (Or.inl z)), c2.kp (fun j c hj _ e => f _ c e (Or.inr (Or.inl (by rw [Nat.add_assoc]; exact b3 (1 + j) (by omega))))), c3.kp (by omega) hoo (fun c e => f _ c e (Or.inr (Or.inl (b3 9 (by omega))))) (fun a c z e => f a c e (Or.inr (Or.inl z))), c4, fun j hj => (c5 j hj).kp hoo (fun a c z e => f a c e (Or.inr (Or.inr ⟨_, ?_, z⟩)))⟩
    rw [List.getD_eq_getElem?_getD, List.getElem?_eq_getElem hj]
    exact List.getElem_mem hj
theorem cw_ty.kp {o o2 : Nat → Nat} {h h2 : nd_H} {t : Nat} {q : Option (Nat × List Int64)} (H : cw_ty o h t q) (hoo : ∀ a, o a ≠ 0 → o2 a = o a) (f : ∀ a c, h[a]? = some c → (a = 96 + t ∨ o a = 4 + t) → h2[a]? = some c) : cw_ty o2 h2 t q := by
  unfold cw_ty at H ⊢
  cases q with
  | none => exact f _ _ H (Or.inl rfl)
  | some q =>
    obtain ⟨b, b1, b2, b3, b4⟩ := H
    exact ⟨b, by rw [hoo _ (by omega)]; exact b1, b2, f _ _ b3 (Or.inl rfl), b4.f (fun c e => f _ c e (Or.inr b1))⟩
theorem cw_K.mv {o o2 : Nat → Nat} {nap nap2 : Nat} {ds ds2 : List Nat} {gi : Nat → Value} {dss : Nat → List Nat} {S : sy_S} {P : sy_P} {h h2 : nd_H} (H : cw_K o nap ds gi dss S h) (hoo : ∀ a, o a ≠ 0 → o2 a = o a) (ho2 : ∀ a, o2 a ≠ 0 → a < h2.length ∧ ((2 ≤ a ∧ a ≤ 5) ∨ 123 ≤ a)) (h0 : ∃ x, cx_O h2 (nI (sy_b S).length) (nI (sy_fk S)) (sy_fp S) x)
    (hf : ∀ a c, h[a]? = some c → (a = 17 ∨ (91 ≤ a ∧ a ≤ 93) ∨ (95 ≤ a ∧ a ≤ 99) ∨ o a = 1 ∨ (4 ≤ o a ∧ o a ≤ 12) ∨ (∃ b, b ∈ dss 0 ++ (dss 1 ++ dss 2) ∧ o a = 20 + b)) → h2[a]? = some c) (hk : cw_k o2 h2 1 90 2 nap2 P ds2) (hnd : (ds2 ++ (dss 0 ++ (dss 1 ++ dss 2))).Nodup) : cw_K o2 nap2 ds2 gi dss (sy_set S P) h2 := by
  obtain ⟨-, a2, a3, a4, a5, a6, a7, a8, ⟨tf, a9, a10⟩, a11, a12⟩ := H
  have hin : ∀ i, i < 3 → ∀ b ∈ dss i, b ∈ dss 0 ++ (dss 1 ++ dss 2) := by
    intro i hi b hb
    match i, hi with
    | 0, _ => exact List.mem_append_left _ hb
    | 1, _ => exact List.mem_append_right _ (List.mem_append_left _ hb)
    | 2, _ => exact List.mem_append_right _ (List.mem_append_right _ hb)
  refine ⟨h0, hf _ _ a2 (Or.inl rfl), hk, hf _ _ a4 (Or.inr (Or.inl (by omega))), fun i hi => ?_, hnd, hf _ _ a7 (Or.inr (Or.inr (Or.inl (by omega)))), fun t ht => ?_, ⟨tf, hf _ _ a9 (Or.inr (Or.inl (by omega))), a10⟩, hf _ _ a11 (Or.inr (Or.inl (by omega))), ho2⟩
  · refine (a5 i hi).kp (fun a ha => (a12 a ha).1) hoo (fun a c e z => hf a c e ?_)
    rcases z with z | z | ⟨b, z1, z2⟩
    · exact Or.inr (Or.inr (Or.inr (Or.inl z)))
    · exact Or.inr (Or.inr (Or.inr (Or.inr (Or.inl (by omega)))))
    · exact Or.inr (Or.inr (Or.inr (Or.inr (Or.inr ⟨b, hin i hi b z1, z2⟩))))
  · refine (a8 t ht).kp hoo (fun a c e z => hf a c e ?_)
    rcases z with z | z
    · exact Or.inr (Or.inr (Or.inl (by omega)))
    · exact Or.inr (Or.inr (Or.inr (Or.inr (Or.inl (by omega)))))

