set_option maxRecDepth 100000
/-! ===== evening ===== -/
section CP80
variable {g : nd_G} {d mc ms : Nat} {K : nd_K} {X : nd_X} {h : nd_H} {o : Nat → Nat} {nap : Nat} {ds : List Nat} {gi : Nat → Value} {dss : Nat → List Nat} {S : sy_S}
abbrev cx_X (S : sy_S) (h : nd_H) (x : Int32) : Prop := cx_O h (nI (sy_b S).length) (nI (sy_fk S)) (sy_fp S) x
theorem cw_K.x0 {h h2 : nd_H} {x : Int32} (H : cw_K o nap ds gi dss S h) (f : x0_f h h2) (hx : cx_X S h2 x) : cw_K o nap ds gi dss S h2 := by
  have H0 := H
  obtain ⟨-, a2, ⟨c1, c2, c3, c4, c5⟩, a4, a5, a6, a7, a8, a9, a11, a12⟩ := H
  have kf : ∀ a c, h[a]? = some c → a ≠ 0 → h2[a]? = some c := fun a c e z => (f.2 a z).trans e
  have ko : ∀ a c, h[a]? = some c → o a ≠ 0 → h2[a]? = some c := fun a c e z => kf a c e (by have := a12 a z; omega)
  refine H0.mv (fun _ _ => rfl) (fun a ha => by rw [f.1]; exact a12 a ha) ⟨x, hx⟩ (fun a c e z => ?_) ⟨c1.kp (fun a ha => (a12 a ha).1) (fun _ _ => rfl) (fun a c z e => ko a c e (by omega)), c2.kp (fun i c hi hi2 e => kf _ c e (by omega)), c3.kp (by omega) (fun _ _ => rfl) (fun c e => kf _ c e (by omega)) (fun a c z e => ko a c e (by omega)), c4, fun i hi => (c5 i hi).kp (fun _ _ => rfl) (fun b c z e => ko b c e (by omega))⟩ a6
  rcases z with z | z | z | z | z | ⟨b, z1, z2⟩
  · exact kf a c e (by omega)
  · exact kf a c e (by omega)
  · exact kf a c e (by omega)
  · exact ko a c e (by omega)
  · exact ko a c e (by omega)
  · exact ko a c e (by omega)
theorem x0_f.sc {h h2 : nd_H} (f : x0_f h h2) (hs : cw_S h) : cw_S h2 := hs.kp (fun a ha => f.2 a (by unfold cw_sc at ha; omega))
theorem x0_f.fr {h h2 : nd_H} (f : x0_f h h2) : cw_fr h h2 := ⟨by rw [f.1]; exact Nat.le_refl _, fun a h1 h2 => f.2 a (by omega)⟩
theorem dr_le (x : Int32) : (dr_deed x).1 ≤ 2599 := by
  unfold dr_deed
  simp only []
  have b6 : dr_v (dr_s x) % 6 < 6 := Nat.mod_lt _ (by decide)
  have b5 : dr_v (dr_s x) % 5 < 5 := Nat.mod_lt _ (by decide)
  have b100 : dr_v (dr_s (dr_s x)) % 100 < 100 := Nat.mod_lt _ (by decide)
  have b4 : dr_v (dr_s (dr_s x)) % 4 < 4 := Nat.mod_lt _ (by decide)
  split
  · show 100 ≤ 2599
    decide
  · split
    · show 1000 + 100 * (dr_v (dr_s x) % 6) + dr_v (dr_s (dr_s x)) % 100 ≤ 2599
      omega
    · show 10 * (1 + dr_v (dr_s x) % 5) + dr_v (dr_s (dr_s x)) % 4 ≤ 2599
      omega
theorem cx_ev (hg : nd_OK g) (hC : nd_Cx g mX1_evening X) (hd : 8 ≤ d) {p : Int32} {y : Nat} (hy : y ≤ 30) : ∀ (j i n : Nat) (x : Int32) (S : sy_S) (h1 : nd_H) (cs ss : Nat) (lv5 : Option Value), sy_ok S → cw_I S h1 → cx_X S h1 x → 123 ≤ h1.length → cw_fr h h1 → i + j = y → n ≤ i → cs + 9 * j ≤ mc → ss + 48 * j ≤ ms → (∀ h2, cw_I (sy_set S (ev_go j (sy_p S) x n).2) h2 → cw_fr h h2 → K (.inl (some (.int (nI (ev_go j (sy_p S) x n).1)))) h2) → nd_W g mX1_evening d mc ms K X 22 [some (.ref 0), some (.int p), some (.int (nI y)), some (.int (nI n)), some (.int (nI i)), lv5] [] h1 cs ss := by
  intro j
  induction j with
  | zero =>
    intro i n x S h1 cs ss lv5 hS hI hX hl hf hij hni hcs hss hk
    refine nd_iload hC dX1_evening_22 rfl ?_
    refine nd_iload_n hC dX1_evening_24 rfl ?_
    first | with_reducible refine nd_icmp_geN hC (tgt := 73) (by omega) (by omega) dX1_evening_25 (by decide) (fun hq => ?_) (fun hq => ?_) | refine nd_icmp_ge hC (tgt := 73) dX1_evening_25 (by decide) (fun hq => ?_) (fun hq => ?_)
    · refine nd_iload_n hC dX1_evening_73 rfl ?_
      refine nd_ireturn hC rfl (by first | rfl | exact nd_b_nar _) (by omega) (by omega) dX1_evening_74 ((hk h1 hI hf))
    · omega
  | succ j ih =>
    intro i n x S h1 cs ss lv5 hS hI hX hl hf hij hni hcs hss hk
    obtain ⟨hs, o, nap, ds, gi, dss, hK⟩ := id hI
    have hO := hX
    unfold cx_X cx_O at hO
    have ep : ev_go (j + 1) (sy_p S) x n = if dd_why (sy_p S) (dr_deed x).1 = 0 then ev_go j (sy_N S, dd_do (sy_c S) (dr_deed x).1, sv_keep (sy_d S) (sy_c S)) (dr_deed x).2 (n + 1) else ev_go j (sy_p S) (dr_deed x).2 n := rfl
    rw [ep] at hk
    have hle := dr_le x
    generalize dr_deed x = D at hk hle
    refine nd_iload hC dX1_evening_22 rfl ?_
    refine nd_iload_n hC dX1_evening_24 rfl ?_
    first | with_reducible refine nd_icmp_geN hC (tgt := 73) (by omega) (by omega) dX1_evening_25 (by decide) (fun hq => ?_) (fun hq => ?_) | refine nd_icmp_ge hC (tgt := 73) dX1_evening_25 (by decide) (fun hq => ?_) (fun hq => ?_)
    · omega
    sorry
end CP80

