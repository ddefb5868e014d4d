set_option maxRecDepth 100000
/-! ===== the law: the script, the two worlds ===== -/
/-- the script lies in the heap, never written -/
def sc_X (g : nd_G) (L : Nat) (xs : Nat → Int32) : Prop := nd_fv g 300 = .ref (nd_sa g 300) ∧ va_T .int (nd_sa g 300) L (fun j => .int (xs j)) (fun q => nd_z g ≤ q) (nd_s g) (nd_s g).heap
section LW90
variable {g : nd_G} {mm : nd_Mt} {d mc ms : Nat} {K : nd_K} {X : nd_X} {pc : Nat} {lv : List (Option Value)} {st : List Value} {h : nd_H} {cs ss : Nat} {L : Nat} {xs : Nat → Int32}
theorem nd_slen (hC : nd_Cx g mm X) (hx : sc_X g L xs) (hd : decode mm.2.1 pc = .ok (.arraylength, 1)) (k : nd_W g mm d mc ms K X (pc + 1) lv (.int (nI L) :: st) h cs ss) : nd_W g mm d mc ms K X pc lv (nd_f 300 :: st) h cs ss := by
  intro H ls locs hl hR hS
  have k1 := k H ls locs hl hR hS
  obtain ⟨e1, f1⟩ := hx
  rw [List.map_cons, nd_vf (by omega), e1]
  exact va_tlen hC.1 hC.2.1 ((va_T.moved hC.al f1).kept (nd_frn hC hR hS)) hS (v := nI L) rfl hd k1
theorem nd_sald (hC : nd_Cx g mm X) (hx : sc_X g L xs) {j : Nat} (hj : j < L) (hj2 : j < 2147483648) (hd : decode mm.2.1 pc = .ok (.iaload, 1)) (k : nd_W g mm d mc ms K X (pc + 1) lv (.int (xs j) :: st) h cs ss) : nd_W g mm d mc ms K X pc lv (.int (nI j) :: nd_f 300 :: st) h cs ss := by
  intro H ls locs hl hR hS
  have k1 := k H ls locs hl hR hS
  obtain ⟨e1, f1⟩ := hx
  rw [List.map_cons, List.map_cons, nd_vf (by omega), e1]
  have hij : (nI j).toInt = (j : Int) := nI_toInt hj2
  refine va_ti hC.1 hC.2.1 ((va_T.moved hC.al f1).kept (nd_frn hC hR hS)) hS (nd_inn hij hj) (v := .int (xs j)) ?_ hd k1
  rw [nd_toNat hij]
end LW90
/-- only the reference's cells and out have changed -/
theorem cw_K.o101 {o : Nat → Nat} {nap : Nat} {ds : List Nat} {gi : Nat → Value} {dss : Nat → List Nat} {S : sy_S} {h h2 : nd_H} (H : cw_K o nap ds gi dss S h) (hlen : h2.length = h.length) (hf : ∀ a, (a < 101 ∨ 122 < a) → h2[a]? = h[a]?) : cw_K o nap ds gi dss S h2 := by
  have H0 := H
  obtain ⟨⟨x, a1⟩, a2, ⟨c1, c2, c3, c4, c5⟩, a4, a5, a6, a7, a8, ⟨tf, a9, a10⟩, a11, a12⟩ := H
  have kf : ∀ a c, h[a]? = some c → (a < 101 ∨ 122 < a) → h2[a]? = some c := fun a c e z1 => (hf a z1).trans e
  have ko : ∀ a c, h[a]? = some c → o a ≠ 0 → h2[a]? = some c := fun a c e z1 => kf a c e (by have := a12 a z1; omega)
  have hoo : ∀ a, o a ≠ 0 → o a = o a := fun _ _ => rfl
  refine ⟨⟨x, kf _ _ a1 (by omega)⟩, kf _ _ a2 (by omega), ⟨c1.kp (fun a ha => (a12 a ha).1) hoo (fun a c z e => ko a c e (by omega)), c2.kp (fun i c hi hi2 e => kf _ c e (by omega)), c3.kp (by omega) hoo (fun c e => kf _ c e (by omega)) (fun a c z e => ko a c e (by omega)), c4, fun i hi => (c5 i hi).kp hoo (fun b c z e => ko b c e (by omega))⟩, kf _ _ a4 (by omega), fun i hi => ?_, a6, kf _ _ a7 (by omega), fun s hs => ?_, ⟨tf, kf _ _ a9 (by omega), a10⟩, kf _ _ a11 (by omega), fun a ha => by rw [hlen]; exact a12 a ha⟩
  · refine (a5 i hi).kp (fun a ha => (a12 a ha).1) hoo (fun a c e z => ?_)
    rcases z with z | z | ⟨b, -, z⟩
    · exact ko a c e (by omega)
    · exact ko a c e (by omega)
    · exact ko a c e (by omega)
  · refine (a8 s hs).kp hoo (fun a c e z => ?_)
    rcases z with z | z
    · exact kf a c e (by omega)
    · exact ko a c e (by omega)
theorem cw_I.o101 {S : sy_S} {h h2 : nd_H} (H : cw_I S h) (hlen : h2.length = h.length) (hf : ∀ a, (a < 101 ∨ 122 < a) → h2[a]? = h[a]?) : cw_I S h2 := by
  obtain ⟨hs, o, nap, ds, gi, dss, hK⟩ := H
  exact ⟨hs.kp (fun a ha => hf a (by unfold cw_sc at ha; omega)), o, nap, ds, gi, dss, hK.o101 hlen hf⟩
/-- the reference's world moves along -/
theorem mo_W.re {h0 h h2 : nd_H} {A : Nat → Nat → Int32} {F : Nat → Int32} {B : Nat → Nat → Int64} (H : mo_W h0 A F B h) (hf : ∀ a, 101 ≤ a → a ≤ 121 → h2[a]? = h[a]?) : mo_W h2 A F B h2 := by
  obtain ⟨-, a2, a3, a4⟩ := H
  refine ⟨⟨rfl, fun _ _ => rfl⟩, (hf 101 (by omega) (by omega)).trans a2, fun k hk => ?_, fun k hk => ?_⟩
  · have := mo_ad_in (Or.inl hk)
    exact (hf _ (by omega) (by omega)).trans (a3 k hk)
  · have := mo_ad_in (Or.inr hk)
    exact (hf _ (by omega) (by omega)).trans (a4 k hk)
/-- both worlds hold S, n calls done -/
def lw_I (n : Nat) (S : sy_S) (h : nd_H) : Prop := sy_ok S ∧ cw_I S h ∧ 123 ≤ h.length ∧ (∃ ov, h[122]? = some (.inl (1, 1, .inr (.inl ov)))) ∧ ∃ A F B, mo_I (4 * n) S A F B ∧ mo_W h A F B h
theorem sy_0_ok : sy_ok sy_0 := by
  refine ⟨⟨?_, ?_, Nat.zero_le _, fun s hs => absurd hs (List.not_mem_nil)⟩, fun i hi P e => (nomatch e), fun t ht q e => (nomatch e), Nat.zero_le _, fun i => ?_, Nat.zero_le _⟩
  · exact tx_nk_ok (N := tx_0) tx_0_ok (Nat.zero_le _) |>.1
  · exact (tx_nk_ok (N := tx_0) tx_0_ok (Nat.zero_le _)).2.1
  · show ([] : List Nat).getD i 0 < 256
    simp

