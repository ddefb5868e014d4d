set_option maxRecDepth 100000
/-! ===== evening ===== -/
section CP80
variable {g : nd_G} {d mc ms : Nat} {K : nd_K} {X : nd_X} {h : nd_H} {o : Nat → Nat} {nap : Nat} {ds : List Nat} {gi : Nat → Value} {dss : Nat → List Nat} {S : sy_S}
abbrev cx_X (S : sy_S) (h : nd_H) (x : Int32) : Prop := cx_O h (nI (sy_b S).length) (nI (sy_fk S)) (sy_fp S) x
theorem cw_K.x0 {h h2 : nd_H} {x : Int32} (H : cw_K o nap ds gi dss S h) (f : x0_f h h2) (hx : cx_X S h2 x) : cw_K o nap ds gi dss S h2 := by
  have H0 := H
  obtain ⟨-, a2, ⟨c1, c2, c3, c4, c5⟩, a4, a5, a6, a7, a8, a9, a11, a12⟩ := H
  have kf : ∀ a c, h[a]? = some c → a ≠ 0 → h2[a]? = some c := fun a c e z => (f.2 a z).trans e
  have ko : ∀ a c, h[a]? = some c → o a ≠ 0 → h2[a]? = some c := fun a c e z => kf a c e (by have := a12 a z; omega)
  refine H0.mv (fun _ _ => rfl) (fun a ha => by rw [f.1]; exact a12 a ha) ⟨x, hx⟩ (fun a c e z => ?_) ⟨c1.kp (fun a ha => (a12 a ha).1) (fun _ _ => rfl) (fun a c z e => ko a c e (by omega)), c2.kp (fun i c hi hi2 e => kf _ c e (by omega)), c3.kp (by omega) (fun _ _ => rfl) (fun c e => kf _ c e (by omega)) (fun a c z e => ko a c e (by omega)), c4, fun i hi => (c5 i hi).kp (fun _ _ => rfl) (fun b c z e => ko b c e (by omega))⟩ a6
  rcases z with z | z | z | z | z | ⟨b, z1, z2⟩
  · exact kf a c e (by omega)
  · exact kf a c e (by omega)
  · exact kf a c e (by omega)
  · exact ko a c e (by omega)
  · exact ko a c e (by omega)
  · exact ko a c e (by omega)
theorem x0_f.sc {h h2 : nd_H} (f : x0_f h h2) (hs : cw_S h) : cw_S h2 := hs.kp (fun a ha => f.2 a (by unfold cw_sc at ha; omega))
theorem x0_f.fr {h h2 : nd_H} (f : x0_f h h2) : cw_fr h h2 := ⟨by rw [f.1]; exact Nat.le_refl _, fun a h1 h2 => f.2 a (by omega)⟩
theorem dr_le (x : Int32) : (dr_deed x).1 ≤ 2599 := by
  unfold dr_deed
  simp only []
  have b6 : dr_v (dr_s x) % 6 < 6 := Nat.mod_lt _ (by decide)
  have b5 : dr_v (dr_s x) % 5 < 5 := Nat.mod_lt _ (by decide)
  have b100 : dr_v (dr_s (dr_s x)) % 100 < 100 := Nat.mod_lt _ (by decide)
  have b4 : dr_v (dr_s (dr_s x)) % 4 < 4 := Nat.mod_lt _ (by decide)
  split
  · show 100 ≤ 2599
    decide
  · split
    · show 1000 + 100 * (dr_v (dr_s x) % 6) + dr_v (dr_s (dr_s x)) % 100 ≤ 2599
      omega
    · show 10 * (1 + dr_v (dr_s x) % 5) + dr_v (dr_s (dr_s x)) % 4 ≤ 2599
      omega
theorem cx_ev (hg : nd_OK g) (hC : nd_Cx g mX1_evening X) (hd : 8 ≤ d) {p : Int32} {y : Nat} (hy : y ≤ 30) : ∀ (j i n : Nat) (x : Int32) (S : sy_S) (h1 : nd_H) (cs ss : Nat) (lv5 : Option Value), sy_ok S → cw_I S h1 → cx_X S h1 x → 123 ≤ h1.length → cw_fr h h1 → i + j = y → n ≤ i → cs + 9 * j ≤ mc → ss + 48 * j ≤ ms → (∀ h2, cw_I (sy_set S (ev_go j (sy_p S) x n).2) h2 → cw_fr h h2 → K (.inl (some (.int (nI (ev_go j (sy_p S) x n).1)))) h2) → nd_W g mX1_evening d mc ms K X 22 [some (.ref 0), some (.int p), some (.int (nI y)), some (.int (nI n)), some (.int (nI i)), lv5] [] h1 cs ss := by
  intro j
  induction j with
  | zero =>
    intro i n x S h1 cs ss lv5 hS hI hX hl hf hij hni hcs hss hk
    refine nd_iload hC dX1_evening_22 rfl ?_
    refine nd_iload_n hC dX1_evening_24 rfl ?_
    first | with_reducible refine nd_icmp_geN hC (tgt := 73) (by omega) (by omega) dX1_evening_25 (by decide) (fun hq => ?_) (fun hq => ?_) | refine nd_icmp_ge hC (tgt := 73) dX1_evening_25 (by decide) (fun hq => ?_) (fun hq => ?_)
    · refine nd_iload_n hC dX1_evening_73 rfl ?_
      refine nd_ireturn hC rfl (by first | rfl | exact nd_b_nar _) (by omega) (by omega) dX1_evening_74 ((hk h1 hI hf))
    · omega
  | succ j ih =>
    intro i n x S h1 cs ss lv5 hS hI hX hl hf hij hni hcs hss hk
    obtain ⟨hs, o, nap, ds, gi, dss, hK⟩ := id hI
    have hO := hX
    unfold cx_X cx_O at hO
    have ep : ev_go (j + 1) (sy_p S) x n = if dd_why (sy_p S) (dr_deed x).1 = 0 then ev_go j (sy_N S, dd_do (sy_c S) (dr_deed x).1, sv_keep (sy_d S) (sy_c S)) (dr_deed x).2 (n + 1) else ev_go j (sy_p S) (dr_deed x).2 n := rfl
    rw [ep] at hk
    have hle := dr_le x
    refine nd_iload hC dX1_evening_22 rfl ?_
    refine nd_iload_n hC dX1_evening_24 rfl ?_
    first | with_reducible refine nd_icmp_geN hC (tgt := 73) (by omega) (by omega) dX1_evening_25 (by decide) (fun hq => ?_) (fun hq => ?_) | refine nd_icmp_ge hC (tgt := 73) dX1_evening_25 (by decide) (fun hq => ?_) (fun hq => ?_)
    · omega
    refine nd_aload_n hC dX1_evening_28 rfl rfl ?_
    refine nd_callV (mm2 := mX1_drawn) (As := []) (mc2 := 0) (ms2 := 0) (d2 := d - 1) hC rfl lkX1_361 ⟨rfl, lmX1_drawn⟩ (hO) rfl (Nat.le_of_ble_eq_true rfl) (by omega) rfl (by exact Nat.le_of_ble_eq_true rfl) (by omega) (by omega) dX1_evening_29 rfl ((cx_drawn hg (by omega) hX ?_))
    intro h2 f2 hX2
    generalize dr_deed x = D at hk hle hX2 ⊢
    have hK2 := hK.x0 f2 hX2
    have hs2 := f2.sc hs
    have hl2 : 123 ≤ h2.length := by rw [f2.1]; exact hl
    have hO2 := hX2
    unfold cx_O at hO2
    obtain ⟨-, -, hkk2, -⟩ := id hK2
    refine nd_istore hC dX1_evening_32 (Nat.le_of_ble_eq_true rfl) ?_
    refine nd_aload_n hC dX1_evening_34 rfl rfl ?_
    refine nd_aload_n hC dX1_evening_35 rfl rfl ?_
    refine nd_get (ci := nX1) hC in_X1 rfl hO2 0 (by decide) q384 (fun _ z => z) rfl dX1_evening_36 ?_
    refine nd_iload hC dX1_evening_39 rfl ?_
    first | with_reducible refine nd_i2lN hC (by omega) dX1_evening_41 ?_ | refine nd_i2l hC dX1_evening_41 ?_
    refine nd_callV (mm2 := mX1_whyNot) (As := [_, _]) (mc2 := 0) (ms2 := 0) (d2 := d - 1) hC rfl lkX1_344 ⟨rfl, lmX1_whyNot⟩ (hO2) rfl (Nat.le_of_ble_eq_true rfl) (by omega) rfl (by exact Nat.le_of_ble_eq_true rfl) (by omega) (by omega) dX1_evening_42 rfl ((cx_whyNot (dd := sy_d S) hg (by omega) hS hs2 hK2 (Or.inl rfl) hkk2.2.1 hS.1.2.1 (lN D.1) ?_))
    intro h3 f3 fw hs3 hK3
    rw [lN_toInt (by omega)]
    have hl3 : 123 ≤ h3.length := by have := fw.1; omega
    have fr3 : cw_fr h h3 := hf.trans (f2.fr.trans (fw.fr hl2))
    have hX3 : cx_X S h3 D.2 := fw.2 0 _ hX2 (by unfold cw_sc; omega)
    by_cases hw : dd_why (sy_p S) (D.1 : Int) = 0
    rotate_left
    · rw [if_neg hw] at hk
      first | with_reducible refine nd_if_eqB hC (tgt := 51) dX1_evening_45 (by decide) (fun hq3 => ?_) (fun hq3 => ?_) | with_reducible refine nd_if_eqN hC (tgt := 51) (by omega) dX1_evening_45 (by decide) (fun hq3 => ?_) (fun hq3 => ?_) | refine nd_if_eq hC (tgt := 51) dX1_evening_45 (by decide) (fun hq3 => ?_) (fun hq3 => ?_)
      · exfalso
        have hq3 : nI (dd_why (sy_p S) (D.1 : Int)) = 0 := hq3
        have hle := dd_why_le (sy_p S) (D.1 : Int)
        have := congrArg Int32.toInt hq3
        rw [nI_toInt (by omega), Int32.toInt_zero] at this
        omega
      · refine nd_goto hC (tgt := 67) dX1_evening_48 (by decide) ?_
        first | with_reducible refine nd_iincN hC dX1_evening_67 rfl (Nat.le_of_ble_eq_true rfl) ?_ | refine nd_iinc hC dX1_evening_67 rfl rfl (Nat.le_of_ble_eq_true rfl) ?_
        refine nd_goto hC (tgt := 22) dX1_evening_70 (by decide) ?_
        exact ih (i + 1) n D.2 S h3 _ _ _ hS ⟨hs3, o, nap, ds, gi, dss, hK3⟩ hX3 hl3 fr3 (by omega) (by omega) (by omega) (by omega) hk
    rw [if_pos hw] at hk
    first | with_reducible refine nd_if_eqB hC (tgt := 51) dX1_evening_45 (by decide) (fun hq3 => ?_) (fun hq3 => ?_) | with_reducible refine nd_if_eqN hC (tgt := 51) (by omega) dX1_evening_45 (by decide) (fun hq3 => ?_) (fun hq3 => ?_) | refine nd_if_eq hC (tgt := 51) dX1_evening_45 (by decide) (fun hq3 => ?_) (fun hq3 => ?_)
    rotate_left
    · exact absurd (by show nI (dd_why (sy_p S) (D.1 : Int)) = 0; rw [hw]; rfl) hq3
    have hO3 := hX3
    unfold cx_X cx_O at hO3
    refine nd_aload_n hC dX1_evening_51 rfl rfl ?_
    refine nd_callV (mm2 := mX1_notes) (As := []) (mc2 := 9) (ms2 := 48) (d2 := d - 1) hC rfl lkX1_297 ⟨rfl, lmX1_notes⟩ (hO3) rfl (Nat.le_of_ble_eq_true rfl) (by omega) rfl (by exact Nat.le_of_ble_eq_true rfl) (by omega) (by omega) dX1_evening_52 rfl ((cx_notesF hg (by omega) ⟨hs3, o, nap, ds, gi, dss, hK3⟩ hS hl3 ?_))
    intro h4 kl hI4 fr4
    have hX4 : cx_X (sy_set S (sy_kp S)) h4 D.2 := (kl 0 (by omega) (by omega)).trans hX3
    obtain ⟨hs4, o4, nap4, ds4, gi4, dss4, hK4⟩ := id hI4
    obtain ⟨-, -, hkk4, -⟩ := id hK4
    have hO4 := hX4
    unfold cx_X cx_O at hO4
    refine nd_aload_n hC dX1_evening_55 rfl rfl ?_
    refine nd_get (ci := nX1) hC in_X1 rfl hO4 0 (by decide) q384 (fun _ z => z) rfl dX1_evening_56 ?_
    refine nd_iload hC dX1_evening_59 rfl ?_
    refine nd_callS (mm2 := mX1_does) (As := [_, _]) (mc2 := 0) (ms2 := 0) (d2 := d - 1) hC rfl lkX1_348 lmX1_does (Nat.le_of_ble_eq_true rfl) (by omega) rfl (by exact Nat.le_of_ble_eq_true rfl) (by omega) (by omega) dX1_evening_61 rfl ((cs_does (P := sy_p S) (z := (D.1 : Int)) hg (by omega) (nI_toInt (by omega)) hkk4.2.1 hS.1 hw ?_))
    intro h5 f5 s5
    have hK5 : cw_K o4 nap4 ds4 gi4 dss4 (sy_dd S (D.1 : Int)) h5 := hK4.st f5 s5
    have hX5 : cx_X (sy_dd S (D.1 : Int)) h5 D.2 := (f5.2 0 (by omega)).trans hX4
    first | with_reducible refine nd_iincN hC dX1_evening_64 rfl (Nat.le_of_ble_eq_true rfl) ?_ | refine nd_iinc hC dX1_evening_64 rfl rfl (Nat.le_of_ble_eq_true rfl) ?_
    first | with_reducible refine nd_iincN hC dX1_evening_67 rfl (Nat.le_of_ble_eq_true rfl) ?_ | refine nd_iinc hC dX1_evening_67 rfl rfl (Nat.le_of_ble_eq_true rfl) ?_
    refine nd_goto hC (tgt := 22) dX1_evening_70 (by decide) ?_
    exact ih (i + 1) (n + 1) D.2 (sy_dd S (D.1 : Int)) h5 _ _ _ (sy_dd_ok hS hw) ⟨f5.sc hs4, o4, nap4, ds4, gi4, dss4, hK5⟩ hX5 (by have := fr4.1; rw [f5.1]; omega) (fr3.trans (fr4.trans f5.fr)) (by omega) (by omega) (by omega) (by omega) hk
end CP80

