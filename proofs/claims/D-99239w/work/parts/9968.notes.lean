set_option maxRecDepth 100000
/-! ===== NapkinDeeds.notes ===== -/
section CP68
variable {g : nd_G} {mm : nd_Mt} {d mc ms : Nat} {K : nd_K} {X : nd_X} {pc : Nat} {lv : List (Option Value)} {st : List Value} {h : nd_H} {cs ss : Nat} {o : Nat → Nat} {nap : Nat} {ds : List Nat} {gi : Nat → Value} {dss : Nat → List Nat} {S : sy_S}
theorem cw_K.O {h : nd_H} (H : cw_K o nap ds gi dss S h) : ∃ x, cx_O h (nI (sy_b S).length) (nI (sy_fk S)) (sy_fp S) x := H.1
theorem gd_app {α : Type} {l : List α} {x z : α} {i : Nat} (h : i < l.length + 1) : (l ++ [x]).getD i z = if i = l.length then x else l.getD i z := by
  by_cases e : i = l.length
  · subst e
    rw [if_pos rfl, List.getD_eq_getElem?_getD, List.getElem?_append_right (Nat.le_refl _), Nat.sub_self]; rfl
  · rw [if_neg e, List.getD_eq_getElem?_getD, List.getElem?_append_left (by omega), ← List.getD_eq_getElem?_getD]
theorem cw_K.blk {h : nd_H} (H : cw_K o nap ds gi dss S h) {b : Nat} (hb : b ∈ ds ++ (dss 0 ++ (dss 1 ++ dss 2))) : 123 ≤ b ∧ ∀ i, i < 8 → o (b + i) = 20 + b := by
  obtain ⟨-, -, ⟨c1, c2, c3, c4, c5⟩, -, a5, -⟩ := H
  have im : ∀ i, i < 3 → b ∈ dss i → 123 ≤ b ∧ ∀ i, i < 8 → o (b + i) = 20 + b := by
    intro i hi hb
    have M := a5 i hi
    unfold cw_im at M
    cases e : sy_i S i with
    | none =>
      rw [e] at M
      rw [M.2] at hb
      cases hb
    | some P =>
      rw [e] at M
      obtain ⟨b0, np, -, -, -, -, -, -, -, -, b5⟩ := M
      obtain ⟨j, hj, rfl⟩ := List.getElem_of_mem hb
      have := b5 j hj
      rw [List.getD_eq_getElem?_getD, List.getElem?_eq_getElem hj] at this
      exact ⟨this.1, this.2.1⟩
  rcases List.mem_append.1 hb with z | z
  · obtain ⟨j, hj, rfl⟩ := List.getElem_of_mem z
    have := c5 j hj
    rw [List.getD_eq_getElem?_getD, List.getElem?_eq_getElem hj] at this
    exact ⟨this.1, this.2.1⟩
  · rcases List.mem_append.1 z with z | z
    · exact im 0 (by omega) z
    · rcases List.mem_append.1 z with z | z
      · exact im 1 (by omega) z
      · exact im 2 (by omega) z
theorem cx_n33 (hg : nd_OK g) (hC : nd_Cx g mX1_notes X) (hd : 5 ≤ d) (hK : cw_K o nap ds gi dss S h) (hok : sy_ok S) {D napD : Nat} {fr bk fo : Nat → Int32} {mn : Int32} (hD : 123 ≤ D) (hDo : ∀ i, i < 8 → o (D + i) = 20 + D) (hDn : D ∉ ds ++ (dss 0 ++ (dss 1 ++ dss 2))) (hDS : cs_S h D napD fr bk fo mn) (h10 : ds.length < 10) (hl : 123 ≤ h.length) (hcs : cs + 1 ≤ mc) (hss : ss + 10 ≤ ms) (hk : ∀ h2 o2, cw_K o2 nap (ds ++ [D]) gi dss (sy_set S (sy_N S, sy_c S, sy_d S ++ [sy_c S])) h2 → h.length ≤ h2.length → (∀ a, a < 123 → a ≠ 90 → h2[a]? = h[a]?) → K (.inl none) h2) : nd_W g mX1_notes d mc ms K X 33 [some (.ref 0), none] [.ref D] h cs ss := by
  obtain ⟨x0, hO⟩ := hK.1
  have hN : nk_ok (sy_N S) := hok.1.1
  have hn6 : nk_n (sy_N S) ≤ 6 := hN.1
  obtain ⟨-, -, ⟨c1, c2, c3, c4, c5⟩, -, -, -, -, -, -, -, a12⟩ := id hK
  unfold cx_O at hO
  refine nd_astore_n hC dX1_notes_33 (Nat.le_of_ble_eq_true rfl) rfl ?_
  refine nd_aload_n hC dX1_notes_34 rfl rfl ?_
  refine nd_aload_n hC dX1_notes_35 rfl rfl ?_
  refine nd_get (ci := nX1) hC in_X1 rfl hO 0 (by decide) q384 (fun _ z => z) rfl dX1_notes_36 ?_
  refine nd_callV (mm2 := mX2_become) (As := [_]) (mc2 := 0) (ms2 := 0) (d2 := d - 1) hC rfl lkX1_91 ⟨rfl, lmX2_become⟩ (hDS.1) rfl (Nat.le_of_ble_eq_true rfl) (by omega) rfl (by exact Nat.le_of_ble_eq_true rfl) (by omega) (by omega) dX1_notes_39 rfl ((cs_become hg c2 hDS (by omega) hok.1.2.1 hn6 ?_))
  intro h2 f2 s2
  have hDl : D + 7 < h.length := nd_get_lt hDS.2.2.2
  have k2 : ∀ a, o a ≠ 20 + D → h2[a]? = h[a]? := fun a ha => f2.2 a (fun z => ha (by
    have e : a = D + (a - D) := by omega
    rw [e]; exact hDo _ (by omega)))
  have kl : ∀ a, a < 123 → h2[a]? = h[a]? := fun a ha => f2.2 a (by omega)
  have hO2 := (kl 0 (by omega)).trans hO
  obtain ⟨fr2, bk2, fo2, mn2, sD, -⟩ := id s2
  rcases c3 with ⟨e1, m, e2⟩ | ⟨m, ed, gf, e1, e2, e3, e4, e5, e6⟩
  · have q90 := (kl 90 (by omega)).trans e2
    refine nd_aload_n hC dX1_notes_42 rfl rfl ?_
    refine nd_get (ci := nX1) hC in_X1 rfl hO2 3 (by decide) q389 (fun _ z => z) rfl dX1_notes_43 ?_
    refine nd_aload_n hC dX1_notes_46 rfl rfl ?_
    refine nd_callV (mm2 := mJ2_add) (As := [_]) (mc2 := 1) (ms2 := 10) (d2 := d - 1) hC rfl lkX1_95 ⟨rfl, lmJ2_add⟩ (q90) rfl (Nat.le_of_ble_eq_true rfl) (by omega) rfl (by exact Nat.le_of_ble_eq_true rfl) (by omega) (by omega) dX1_notes_47 rfl ((al_add0 hg (by omega) q90 sD.1 ?_))
    intro h3 m3 l3 f3 r3 w3
    have l2 : h2.length = h.length := f2.1
    rw [l2] at l3 r3 w3
    have hoo : ∀ a, o a ≠ 0 → ow o h.length 1 2 a = o a := fun a ha => by
      have := a12 a ha
      unfold ow
      rw [if_neg (by omega)]
    have R := hk h3 (ow o h.length 1 2) (hK.keep hD hDo hDn hoo (fun a ha => by
      unfold ow at ha
      by_cases z : h.length ≤ a ∧ a < h.length + 1
      · omega
      · rw [if_neg z] at ha
        have := a12 a ha
        omega) (fun a ha z1 z2 z3 => (f3 a z1 (by omega)).trans (k2 a z3)) (s2.kp (fun i c hi _ e => (f3 _ (by omega) (by omega)).trans e)) (Or.inr ⟨m3, h.length, _, by unfold ow; rw [if_pos (by omega)], hl, by rw [e1]; exact r3, w3, fun i hi => ?_, fun i hi => ?_⟩)) (by omega) (fun a ha z => (f3 a z (by omega)).trans (kl a ha))
    · refine nd_pop hC (by rfl) dX1_notes_50 ?_
      refine nd_return hC rfl (by omega) (by omega) dX1_notes_51 (R)
    · by_cases z : i = 0
      · subst z; rw [va_up_s]; rfl
      · rw [va_up_n _ _ z]; rfl
    · rw [e1] at hi ⊢
      have z : i = 0 := by
        have : i < 1 := hi
        omega
      subst z; rw [va_up_s]; rfl
  · have q90 := (kl 90 (by omega)).trans e3
    have qed := (k2 ed (by omega)).trans e4
    refine nd_aload_n hC dX1_notes_42 rfl rfl ?_
    refine nd_get (ci := nX1) hC in_X1 rfl hO2 3 (by decide) q389 (fun _ z => z) rfl dX1_notes_43 ?_
    refine nd_aload_n hC dX1_notes_46 rfl rfl ?_
    refine nd_callV (mm2 := mJ2_add) (As := [_]) (mc2 := 1) (ms2 := 10) (d2 := d - 1) hC rfl lkX1_95 ⟨rfl, lmJ2_add⟩ (q90) rfl (Nat.le_of_ble_eq_true rfl) (by omega) rfl (by exact Nat.le_of_ble_eq_true rfl) (by omega) (by omega) dX1_notes_47 rfl ((al_add1 hg (by omega) q90 qed sD.1 h10 ?_))
    intro h3 m3 l3 f3 r3 w3
    have ne : ∀ i, i < 8 → D + i ≠ ed := fun i hi z => by
      have := hDo i hi
      rw [z] at this
      omega
    have R := hk h3 o (hK.keep hD hDo hDn (fun _ _ => rfl) (fun a ha => by rw [l3, f2.1]; exact a12 a ha) (fun a ha z1 z2 z3 => (f3 a z1 (fun z => z2 (by rw [z]; exact e1))).trans (k2 a z3)) (s2.kp (fun i c hi _ e => (f3 _ (by omega) (ne i hi)).trans e)) (Or.inr ⟨m3, ed, _, e1, e2, by rw [List.length_append]; exact r3, w3, fun i hi => ?_, fun i hi => ?_⟩)) (by rw [l3, f2.1]; exact Nat.le_refl _) (fun a ha z => (f3 a z (by omega)).trans (kl a ha))
    · refine nd_pop hC (by rfl) dX1_notes_50 ?_
      refine nd_return hC rfl (by omega) (by omega) dX1_notes_51 (R)
    · by_cases z : i = ds.length
      · subst z; rw [va_up_s]; rfl
      · rw [va_up_n _ _ z]; exact e5 i hi
    · rw [List.length_append] at hi
      rw [gd_app hi]
      by_cases z : i = ds.length
      · subst z; rw [va_up_s, if_pos rfl]
      · rw [va_up_n _ _ z, if_neg z]; exact e6 i (by have : i < ds.length + 1 := hi; omega)

theorem cx_notesF (hg : nd_OK g) (hd : 6 ≤ d) (hI : cw_I S h) (hok : sy_ok S) (hl : 123 ≤ h.length) (hk : ∀ h2, (∀ a, a < 123 → a ≠ 90 → h2[a]? = h[a]?) → cw_I (sy_set S (sy_kp S)) h2 → cw_fr h h2 → K (.inl none) h2) : nd_M g mX1_notes d 9 48 [.ref 0] h K := by
  obtain ⟨hs, o, nap, ds, gi, dss, hK⟩ := hI
  obtain ⟨x0, hO⟩ := hK.1
  obtain ⟨-, -, ⟨c1, c2, c3, c4, c5⟩, -, -, c6, -, -, -, -, a12⟩ := id hK
  unfold cx_O at hO
  have h10 : (sy_d S).length ≤ 10 := hok.1.2.2.1
  have c4 : ds.length = (sy_d S).length := c4
  obtain ⟨m0, ed0, e90⟩ : ∃ m0 ed0, h[90]? = some (.inr (nJ2, [.int m0, ed0, .int (nI ds.length)])) := by
    rcases c3 with ⟨e1, m, e2⟩ | ⟨m, ed, gf, e1, e2, e3, -⟩
    · rw [e1]; exact ⟨m, _, e2⟩
    · exact ⟨m, _, e3⟩
  refine nd_enter hg (by decide) rfl (Nat.le_of_ble_eq_true rfl) (fun X hC => ?_)
  refine nd_aload_n hC dX1_notes_0 rfl rfl ?_
  refine nd_get (ci := nX1) hC in_X1 rfl hO 3 (by decide) q389 (fun _ z => z) rfl dX1_notes_1 ?_
  refine nd_callV (mm2 := mJ2_size) (As := []) (mc2 := 0) (ms2 := 0) (d2 := d - 1) hC rfl lkX1_154 ⟨rfl, lmJ2_size⟩ (e90) rfl (Nat.le_of_ble_eq_true rfl) (by omega) rfl (by exact Nat.le_of_ble_eq_true rfl) (by omega) (by omega) dX1_notes_4 rfl ((ca_size hg e90 ?_))
  refine nd_bipush hC (v := nI 10) (by rfl) dX1_notes_7 ?_
  first | with_reducible refine nd_icmp_neN hC (tgt := 26) (by omega) (by omega) dX1_notes_9 (by decide) (fun hq => ?_) (fun hq => ?_) | refine nd_icmp_ne hC (tgt := 26) dX1_notes_9 (by decide) (fun hq => ?_) (fun hq => ?_)
  · have hlt : ds.length < 10 := by omega
    have e9 : sy_kp S = (sy_N S, sy_c S, sy_d S ++ [sy_c S]) := by show (sy_N S, sy_c S, sv_keep (sy_d S) (sy_c S)) = _; unfold sv_keep; rw [if_neg (by omega)]
    rw [e9] at hk
    refine nd_new (ci := nX2) hC [.null, .null, .null, .null, .int 0] in_X2 rfl tyX2 tyX2_ok q227 q228 q150 rfl rfl (by omega) (by omega) dX1_notes_26 ?_
    refine nd_dup hC (by rfl) dX1_notes_29 ?_
    refine nd_callIN (mm2 := mX2_init) (As := []) (mc2 := 7) (ms2 := 33) (d2 := d - 1) hC rfl rfl q231 q150 q229 q230 rfl lmX2_init (Nat.le_of_ble_eq_true rfl) (by omega) rfl (by exact Nat.le_of_ble_eq_true rfl) (by omega) (by omega) dX1_notes_30 rfl ((ni_X2 hg (by omega) (by rw [List.length_append]; rfl) (by rw [List.getElem?_append_right (Nat.le_refl _), Nat.sub_self]; rfl) ?_))
    intro h2 w2 sD nN nL
    have l2 : h2.length = h.length + 8 := by rw [w2.1, List.length_append]; rfl
    have k2 : ∀ a, a < h.length → h2[a]? = h[a]? := fun a ha => (w2.2 a (by omega) (by rw [List.length_append]; omega)).trans (List.getElem?_append_left ha)
    have hK2 := hK.own (L := h.length) (n := 8) (τ := 20 + h.length) (h2 := h2) ⟨by omega, fun a c e _ => (k2 a (nd_get_lt e)).trans e⟩ (Nat.le_refl _) (by omega) hl
    exact cx_n33 hg hC (by omega) hK2 hok hl (fun i hi => by unfold ow; rw [if_pos (by omega)]) (fun z => by
      have z1 := (hK.blk z).2 0 (by omega)
      have := (a12 (h.length + 0) (by omega)).1
      omega) sD hlt (by omega) (by omega) (by omega) (fun h3 o3 K3 l3 f3 => hk h3 (fun a z1 z2 => (f3 a z1 z2).trans (k2 a (by omega))) ⟨hs.kp (fun a ha => (f3 a (by unfold cw_sc at ha; omega) (by unfold cw_sc at ha; omega)).trans (k2 a (by unfold cw_sc at ha; omega))), o3, nap, _, gi, dss, K3⟩ ⟨by omega, fun a z1 z2 => (f3 a (by omega) (by omega)).trans (k2 a (by omega))⟩)
  · have e10 : ds.length = 10 := by omega
    have e9 : sy_kp S = (sy_N S, sy_c S, (sy_d S).tail ++ [sy_c S]) := by show (sy_N S, sy_c S, sv_keep (sy_d S) (sy_c S)) = _; unfold sv_keep; rw [if_pos (by omega)]
    rw [e9] at hk
    obtain ⟨D, t, rfl⟩ : ∃ D t, ds = D :: t := by
      cases ds with
      | nil => cases e10
      | cons D t => exact ⟨D, t, rfl⟩
    rcases c3 with ⟨z, -⟩ | ⟨m, ed, gf, e1, e2, e3, e4, e5, e6⟩
    · cases z
    refine nd_aload_n hC dX1_notes_12 rfl rfl ?_
    refine nd_get (ci := nX1) hC in_X1 rfl hO 3 (by decide) q389 (fun _ z => z) rfl dX1_notes_13 ?_
    refine nd_iconst hC (v := nI 0) (by rfl) dX1_notes_16 ?_
    refine nd_callV (mm2 := mJ2_remove) (As := [_]) (mc2 := 0) (ms2 := 0) (d2 := d - 1) hC rfl lkX1_285 ⟨rfl, lmJ2_remove⟩ (e3) rfl (Nat.le_of_ble_eq_true rfl) (by omega) rfl (by exact Nat.le_of_ble_eq_true rfl) (by omega) (by omega) dX1_notes_17 rfl ((al_rem hg (by omega) (i := 0) e3 e4 (by omega) (by omega) (fun j hj => ?_) ?_))
    · obtain ⟨-, -, fr, bk, fo, mn, ⟨s1, -⟩, -⟩ := c5 j hj
      exact ⟨_, _, e6 j hj, s1⟩
    intro h2 m2 l2 f2 r2 w2
    rw [e6 0 (by omega)]
    obtain ⟨d1, d2, fr, bk, fo, mn, d3, -⟩ := c5 0 (by omega)
    have bD := hK.blk (b := D) (List.mem_append_left _ (List.mem_cons_self ..))
    have k2 : ∀ a, a ≠ 90 → o a ≠ 2 → h2[a]? = h[a]? := fun a z1 z2 => f2 a z1 (fun z => z2 (by rw [z]; exact e1))
    have kD : ∀ i, i < 8 → h2[D + i]? = h[D + i]? := fun i hi => k2 _ (by omega) (by rw [bD.2 i hi]; omega)
    have d4 : cs_S h2 D nap fr bk fo mn := ⟨(kD 0 (by omega)).trans d3.1, (kD 5 (by omega)).trans d3.2.1, (kD 6 (by omega)).trans d3.2.2.1, (kD 7 (by omega)).trans d3.2.2.2⟩
    show nd_W g mX1_notes _ _ _ _ _ _ _ [.ref D] h2 _ _
    refine nd_castS hC q227 d4.1 rfl dX1_notes_20 ?_
    refine nd_goto hC (tgt := 33) dX1_notes_23 (by decide) ?_
    have t9 : t.length = 9 := by
      have : t.length + 1 = 10 := e10
      omega
    have hK2 := hK.cut (ds2 := t) (dd2 := (sy_d S).tail) l2 k2 (Or.inr ⟨m2, ed, _, e1, e2, by rw [e10] at r2; rw [t9]; exact r2, w2, fun i hi => ?_, fun i hi => ?_⟩) (List.sublist_cons_self D t) (by rw [List.length_tail, ← c4]; rfl) (fun i hi => ⟨i + 1, by show i + 1 < t.length + 1; omega, rfl, by rw [List.getD_eq_getElem?_getD, List.getElem?_tail, ← List.getD_eq_getElem?_getD]⟩)
    · rw [List.nodup_append] at c6
      have c7 := List.nodup_cons.1 c6.1
      exact cx_n33 hg hC (by omega) hK2 ⟨⟨hok.1.1, hok.1.2.1, by show (sy_d S).tail.length ≤ 10; rw [List.length_tail]; omega, fun s hs => hok.1.2.2.2 s (List.mem_of_mem_tail hs)⟩, hok.2⟩ bD.1 bD.2 (fun z => by
        rcases List.mem_append.1 z with z | z
        · exact c7.1 z
        · exact c6.2.2 D (List.mem_cons_self ..) D z rfl) d4 (by omega) (by omega) (by omega) (by omega) (fun h3 o3 K3 l3 f3 => hk h3 (fun a z1 z2 => (f3 a z1 z2).trans (f2 a z2 (by omega))) ⟨hs.kp (fun a ha => (f3 a (by unfold cw_sc at ha; omega) (by unfold cw_sc at ha; omega)).trans (f2 a (by unfold cw_sc at ha; omega) (by unfold cw_sc at ha; omega))), o3, nap, _, gi, dss, K3⟩ ⟨by omega, fun a z1 z2 => (f3 a (by omega) (by omega)).trans (f2 a (by omega) (by omega))⟩)
    · by_cases z : i = (D :: t).length - 1
      · rw [z, va_up_s]; rfl
      · rw [va_up_n _ _ z]
        unfold va_cpy
        split
        · exact e5 _ (by omega)
        · exact e5 i hi
    · rw [va_up_n _ _ (by omega)]
      unfold va_cpy
      rw [if_pos (by omega), show 0 + 1 + (i - 0) = i + 1 by omega, e6 (i + 1) (by omega)]
      rfl
theorem cx_notes (hg : nd_OK g) (hd : 6 ≤ d) (hI : cw_I S h) (hok : sy_ok S) (hl : 123 ≤ h.length) (hk : ∀ h2, cw_I (sy_set S (sy_kp S)) h2 → cw_fr h h2 → K (.inl none) h2) : nd_M g mX1_notes d 9 48 [.ref 0] h K := cx_notesF hg hd hI hok hl (fun h2 _ a b => hk h2 a b)
end CP68

