set_option maxRecDepth 100000
/-! ===== the class's reader: truths ===== -/
theorem rc_lay {T : List Nat} {p q c : Nat} {R : tx_R} (hpq : p ≤ q) (hq : q ≤ T.length) (hR : tx_gd T q R) : rc T R q + 2 * (q - p) ≤ rc T (tx_bind R (tx_lay c)) p ∧ rs T R q + 4 * (q - p) ≤ rs T (tx_bind R (tx_lay c)) p := by
  cases R with
  | inr e =>
    show 2 * (T.length - q) + 2 + 2 * (q - p) ≤ 2 * (T.length - p) + 2 ∧ 4 * (T.length - q) + 9 + 4 * (q - p) ≤ 4 * (T.length - p) + 9
    omega
  | inl x =>
    have h1 : q + x.1.length ≤ x.2 ∧ x.2 ≤ T.length := hR
    show 2 * (x.2 - q) + 2 * (q - p) ≤ 2 * (x.2 - p) ∧ 4 * (x.2 - q) + 4 * (q - p) ≤ 4 * (x.2 - p)
    omega
theorem cp_ok2 {T : List Nat} {sm : Nat → tx_R} {c : Nat} {x : List Nat × Nat} (h : tx_cmp (tx_k T x.2) = some c) : tx_bind (.inl x) (tx_cp T sm) = (match sm (tx_h T x.2) with | .inl y => .inl (x.1 ++ (y.1 ++ [c]), y.2) | .inr e => .inr e) := by
  show (match tx_cp T sm x.2 with | .inl y => (.inl (x.1 ++ y.1, y.2) : tx_R) | .inr e => .inr e) = _
  unfold tx_cp
  rw [h]
  show (match tx_bind (tx_bind (tx_on T x.2) sm) (tx_lay c) with | .inl y => (.inl (x.1 ++ y.1, y.2) : tx_R) | .inr e => .inr e) = _
  rw [show tx_bind (tx_on T x.2) sm = sm (tx_h T x.2) from tx_bind_0 _ _]
  cases sm (tx_h T x.2) <;> rfl
theorem cp_cost {T : List Nat} {sm : Nat → tx_R} {c p : Nat} {x : List Nat × Nat} (h : tx_cmp (tx_k T x.2) = some c) (hG : tx_G T sm) (hk0 : tx_k T x.2 ≠ 0) (hpx : p ≤ x.2) (hx : x.2 ≤ T.length) : rc T (sm (tx_h T x.2)) (tx_h T x.2) + 2 * (tx_h T x.2 - p) ≤ rc T (tx_bind (.inl x) (tx_cp T sm)) p ∧ rs T (sm (tx_h T x.2)) (tx_h T x.2) + 4 * (tx_h T x.2 - p) ≤ rs T (tx_bind (.inl x) (tx_cp T sm)) p := by
  have hh := tx_on_h hk0 hx
  have h1 := hG (tx_h T x.2) hh.2
  rw [cp_ok2 h]
  cases e : sm (tx_h T x.2) with
  | inr y =>
    show 2 * (T.length - tx_h T x.2) + 2 + 2 * (tx_h T x.2 - p) ≤ 2 * (T.length - p) + 2 ∧ 4 * (T.length - tx_h T x.2) + 9 + 4 * (tx_h T x.2 - p) ≤ 4 * (T.length - p) + 9
    omega
  | inl y =>
    rw [e] at h1
    have h1 : tx_h T x.2 + y.1.length ≤ y.2 ∧ y.2 ≤ T.length := h1
    show 2 * (y.2 - tx_h T x.2) + 2 * (tx_h T x.2 - p) ≤ 2 * (y.2 - p) ∧ 4 * (y.2 - tx_h T x.2) + 4 * (tx_h T x.2 - p) ≤ 4 * (y.2 - p)
    omega
theorem tr_cmp {o1 o3 : Nat → Nat} {h1 h3 : nd_H} {r L a1 b3 f1 f2 f sg c : Nat} {s1 s2 : List Nat} (hc : sg = 61 ∧ c = 13 ∨ sg = 60 ∧ c = 14 ∨ sg = 62 ∧ c = 15) (eL : L = h1.length) (A : su_at o1 h1 f1 a1 s1) (hol : ∀ a, o1 a ≠ 0 → a < h1.length) (hr : o1 r ≠ 1) (F : rd_f r h1 h3) (O : ∀ a, a ≤ h1.length → o3 a = o1 a) (B : su_at o3 h3 f2 b3 s2) (hL : L < h3.length) (hf1 : f1 + 1 ≤ f) (hf2 : f2 + 1 ≤ f) : ∃ G, tr_at (oT o3 L) (h3.set L (.inr (nX17, [.ref a1, .ref b3, .int (nI sg)]))) G f L (s1 ++ (s2 ++ [c])) := by
  have z3 : o3 L = 0 := by
    rw [O L (by omega)]
    by_cases q : o1 L = 0
    · exact q
    · have := hol L q; omega
  have A3 : su_at o3 h3 f1 a1 s1 := A.g hol hr F (fun a ha => O a (by omega))
  have kk : ∀ {g a : Nat} {s : List Nat}, su_at o3 h3 g a s → su_at (oT o3 L) (h3.set L (.inr (nX17, [.ref a1, .ref b3, .int (nI sg)]))) g a s := fun H => (H.k (fun x hx => List.getElem?_set_ne (by intro q; rw [← q, z3] at hx; omega))).o2 (fun x hx => by unfold oT; split <;> first | rfl | exact hx)
  exact ⟨1, by unfold oT; rw [if_pos rfl], Or.inr (Or.inl ⟨f - 1, sg, c, a1, b3, s1, s2, by omega, hc, List.getElem?_set_self hL, su_at.mono (by omega) (kk A3), su_at.mono (by omega) (kk B), by rw [List.append_assoc]⟩)⟩
theorem tr_not {o3 : Nat → Nat} {h3 : nd_H} {L b3 f2 f FB : Nat} {s2 : List Nat} (z3 : o3 L = 0) (B : tr_at o3 h3 FB f2 b3 s2) (hL : L < h3.length) (hf2 : f2 + 1 ≤ f) : ∃ G, tr_at (oT o3 L) (h3.set L (.inr (nX16, [.ref b3]))) G f L (s2 ++ [18]) := by
  have kk : ∀ {G g a : Nat} {s : List Nat}, tr_at o3 h3 G g a s → tr_at (oT o3 L) (h3.set L (.inr (nX16, [.ref b3]))) G g a s := fun H => (H.k (fun x hx => List.getElem?_set_ne (by intro q; rw [← q, z3] at hx; omega))).o2 (fun x hx => by unfold oT; split <;> first | rfl | exact hx)
  exact ⟨FB + 1, by unfold oT; rw [if_pos rfl], Or.inl ⟨f2, b3, s2, hf2, List.getElem?_set_self hL, kk B, rfl⟩⟩
section RD98
variable {g : nd_G} {d : Nat} {T : List Nat} {r wr md dp m : Nat}
theorem rd_unit0 (hg : nd_OK g) (hd : 16 ≤ d) (hr : r ≠ 92) (hwr : wr ≠ r) {k : Nat} (hdp : dp + k = 6) {sm : Nat → tx_R} (hGs : tx_G T sm) (hS : rd_S g mX8_sum (d - 1) T r wr md dp m sm) {un : Nat → Nat → tx_R} (hGu : ∀ k, tx_G T (un k)) (hU : ∀ k2, k = k2 + 1 → rd_V g mX8_unit (d - 1) T r wr md (dp + 1) m (un k2)) (hV : ∀ k2, k = k2 + 1 → rd_V g mX8_truth (d - 1) T r wr md (dp + 1) m (tx_trW T (un k2))) : rd_V g mX8_unit d T r wr md dp m (tx_unW T sm (tx_dn un k)) := by
  intro o h K p hp hT hw hR hro hol hk he
  have hrl := hR.lt
  obtain ⟨nu, hb, -⟩ := id hR
  generalize hmc : rc T (tx_unW T sm (tx_dn un k) p) p = mc
  generalize hms : rs T (tx_unW T sm (tx_dn un k) p) p = ms
  refine nd_enter hg (by decide) rfl (Nat.le_of_ble_eq_true rfl) (fun X hC => ?_)
  refine nd_aload_n hC dX8_unit_0 rfl rfl ?_
  refine nd_ldcS hC (i := 13) (r := ("NapkinDeeds$Reader", 162, "not", [110, 111, 116])) rfl rfl dX8_unit_1 ?_
  refine nd_callV (mm2 := mX8_is) (As := [_]) (mc2 := 0) (ms2 := 0) (d2 := d - 1) hC rfl lkX8_84 ⟨rfl, lmX8_is⟩ (hb) rfl (Nat.le_of_ble_eq_true rfl) (by omega) rfl (by exact Nat.le_of_ble_eq_true rfl) (by omega) (by omega) dX8_unit_3 rfl ((rd_isS (i := 13) hg (by omega) hT hR rfl ?_))
  show nd_W _ _ _ _ _ _ _ _ _ [.int (nd_b (tx_w T p tx_not))] _ _ _
  cases zn : tx_w T p tx_not with
  | true =>
    refine nd_if_eqB hC (tgt := 37) dX8_unit_6 (by decide) (fun hq => absurd hq (by decide)) (fun _ => ?_)
    have hh := tx_on_h (T := T) (p := p) (by rw [tx_w_k zn]; decide) hp
    refine nd_aload_n hC dX8_unit_9 rfl rfl ?_
    cases k with
    | zero =>
      have ef : tx_unW T sm (tx_dn un 0) p = .inr (4, tx_b T p) := by unfold tx_unW; rw [if_pos zn]; rfl
      rw [ef] at he hmc hms
      have hmc : 2 * (T.length - p) + 2 = mc := hmc
      have hms : 4 * (T.length - p) + 9 = ms := hms
      have e6 : dp = 6 := by omega
      subst e6
      refine nd_callV (mm2 := mX8_deeper) (As := []) (mc2 := 1) (ms2 := 8) (d2 := d - 1) hC rfl lkX8_130 ⟨rfl, lmX8_deeper⟩ (hb) rfl (Nat.le_of_ble_eq_true rfl) (by omega) rfl (by exact Nat.le_of_ble_eq_true rfl) (by omega) (by omega) dX8_unit_10 rfl ((rd_deeper0 hg (by omega) hR ?_))
      intro h2 k f2 b2
      exact nd_out hC rfl (by omega) (by omega) (he _ rfl h2 k f2 b2)
    | succ k2 =>
      have ef : tx_unW T sm (tx_dn un (k2 + 1)) p = tx_bind (un k2 (tx_h T p)) (tx_lay 18) := by
        unfold tx_unW
        rw [if_pos zn]
        show tx_bind (tx_bind (tx_on T p) (un k2)) (tx_lay 18) = _
        rw [show tx_bind (tx_on T p) (un k2) = un k2 (tx_h T p) from tx_bind_0 _ _]
      rw [ef] at hk he hmc hms
      have hGx := hGu k2 (tx_h T p) hh.2
      have hc9 := rc_lay (p := p) (c := 18) (by omega) hh.2 hGx
      rw [hmc, hms] at hc9
      refine nd_callV (mm2 := mX8_deeper) (As := []) (mc2 := 0) (ms2 := 0) (d2 := d - 1) hC rfl lkX8_130 ⟨rfl, lmX8_deeper⟩ (hb) rfl (Nat.le_of_ble_eq_true rfl) (by omega) rfl (by exact Nat.le_of_ble_eq_true rfl) (by omega) (by omega) dX8_unit_10 rfl ((rd_deeper1 hg (by omega) hT hr hp hR (by omega) (fun h1 a1 f1 e1 => ?_)))
      refine nd_new (ci := nX16) hC [.null] in_X16 rfl tyX16 tyX16_ok q1865 q1866 q183 rfl rfl (by omega) (by omega) dX8_unit_13 ?_
      have hR3 : rd_R (h1 ++ [(.inr (nX16, [.null]) : nd_C)]) r wr md T (tx_h T p) (dp + 1) m := a1.f (List.getElem?_append_left a1.lt)
      have fA : rd_f r h (h1 ++ [(.inr (nX16, [.null]) : nd_C)]) := f1.trans rd_f.app
      have hT3 := hT.f fA hr
      have hw3 := hw.f fA hwr
      obtain ⟨nu3, hb3, -⟩ := id hR3
      have lA : (h1 ++ [(.inr (nX16, [.null]) : nd_C)]).length = h.length + 1 := by rw [List.length_append, e1]; rfl
      refine nd_dup hC (by rfl) dX8_unit_16 ?_
      refine nd_aload_n hC dX8_unit_17 rfl rfl ?_
      refine nd_callV (mm2 := mX8_unit) (As := []) (mc2 := rc T (un k2 (tx_h T p)) (tx_h T p)) (ms2 := rs T (un k2 (tx_h T p)) (tx_h T p)) (d2 := d - 1) hC rfl lkX8_166 ⟨rfl, lmX8_unit⟩ (hb3) rfl (Nat.le_of_ble_eq_true rfl) (by omega) rfl (by exact Nat.le_of_ble_eq_true rfl) (by omega) (by omega) dX8_unit_18 rfl ((hU k2 rfl o _ _ (tx_h T p) hh.2 hT3 hw3 hR3 hro (fun a ha => by rw [lA]; have := hol a ha; omega) (fun y ey h3 o3 b3 bR bf bo bsu => ?_) (fun e ee => ?_)))
      rotate_left
      · intro h9 k f9 b9
        exact nd_out hC rfl (by omega) (by omega) (he e (by rw [ee]; rfl) h9 k (fA.trans f9) b9)
      rw [ey] at hk hmc hms hGx
      have hmc : 2 * (y.2 - p) = mc := hmc
      have hms : 4 * (y.2 - p) = ms := hms
      have hgy : tx_h T p + y.1.length ≤ y.2 ∧ y.2 ≤ T.length := hGx
      have ecy : rc T (un k2 (tx_h T p)) (tx_h T p) = 2 * (y.2 - tx_h T p) := by rw [ey]; rfl
      have esy : rs T (un k2 (tx_h T p)) (tx_h T p) = 4 * (y.2 - tx_h T p) := by rw [ey]; rfl
      have cL : h3[h1.length]? = some (.inr (nX16, [.null])) := (bf.2 h1.length (by rw [lA]; omega) (by omega)).trans l_at_last
      have hL3 : h1.length < h3.length := nd_get_lt cL
      have z3 : o3 h1.length = 0 := by
        rw [bo.1 h1.length (by rw [lA]; omega)]
        by_cases q : o h1.length = 0
        · exact q
        · have := hol h1.length q; omega
      refine nd_callI (mm2 := mX16_init) (As := [_]) (mc2 := 0) (ms2 := 0) (d2 := d - 1) hC rfl rfl q1869 q183 q1867 q1868 rfl lmX16_init (Nat.le_of_ble_eq_true rfl) (by omega) rfl (by exact Nat.le_of_ble_eq_true rfl) (by omega) (by omega) dX8_unit_21 rfl ((ni_X16 hg cL ?_))
      have hRR : rd_R (h3.set h1.length (.inr (nX16, [.ref b3]))) r wr md T y.2 (dp + 1) m := bR.f (List.getElem?_set_ne (by omega))
      obtain ⟨nu4, hb4, hn4⟩ := id hRR
      refine nd_astore_n hC dX8_unit_24 (Nat.le_of_ble_eq_true rfl) rfl ?_
      refine nd_aload_n hC dX8_unit_25 rfl rfl ?_
      refine nd_dup hC (by rfl) dX8_unit_26 ?_
      refine nd_get (ci := nX8) hC in_X8 rfl hb4 8 (by decide) q1632 (fun _ z => z) rfl dX8_unit_27 ?_
      refine nd_iconst hC (v := nI 1) (by rfl) dX8_unit_30 ?_
      first | with_reducible refine nd_isubN hC (by omega) dX8_unit_31 ?_ | refine nd_isub hC dX8_unit_31 ?_
      refine nd_put (ci := nX8) hC in_X8 rfl hb4 8 (by decide) tyX8 tyX8_ok (by decide +kernel) q1632 (fun _ z => z) rfl rfl rfl (by show 8 < 10; decide) dX8_unit_32 ?_
      refine nd_aload_n hC dX8_unit_35 rfl rfl ?_
      have hsu : ∃ G, tr_at (oT o3 h1.length) (h3.set h1.length (.inr (nX16, [.ref b3]))) G (y.2 - p) h1.length (y.1 ++ [18]) := by
        obtain ⟨FB, bsu⟩ := bsu
        exact tr_not z3 bsu hL3 (by have := bsu.pos; omega)
      have hoo : rd_o o (oT o3 h1.length) h (h3.set h1.length (.inr (nX16, [.ref b3]))) := (bo.pre (h := h) (by omega)).setL (by omega) hL3
      have hff : rd_f r h (h3.set h1.length (.inr (nX16, [.ref b3]))) := (fA.trans bf).setL (by omega)
      refine nd_areturn hC rfl (Or.inl ⟨_, rfl⟩) rfl (by omega) (by omega) dX8_unit_36 (hk _ rfl _ (oT o3 h1.length) _ ⟨nu4, List.getElem?_set_self (nd_get_lt hb4), hn4⟩ (hff.trans rd_f.set) ⟨hoo.1, fun a ha => by rw [List.length_set]; exact hoo.2 a ha⟩ ?_)
      obtain ⟨G, hsu⟩ := hsu
      exact ⟨G, hsu.g hoo.2 (by rw [hoo.1 r hrl]; exact hro) rd_f.set (fun _ _ => rfl)⟩
  | false =>
    have zn2 : ¬ tx_w T p tx_not = true := by rw [zn]; decide
    refine nd_if_eqB hC (tgt := 37) dX8_unit_6 (by decide) (fun _ => ?_) (fun hq => absurd hq (by decide))
    refine nd_aload_n hC dX8_unit_37 rfl rfl ?_
    refine nd_bipush hC (v := nI 91) (by rfl) dX8_unit_38 ?_
    refine nd_callV (mm2 := mX8_is_2) (As := [_]) (mc2 := 0) (ms2 := 0) (d2 := d - 1) hC rfl lkX8_88 ⟨rfl, lmX8_is_2⟩ (hb) rfl (Nat.le_of_ble_eq_true rfl) (by omega) rfl (by exact Nat.le_of_ble_eq_true rfl) (by omega) (by omega) dX8_unit_40 rfl ((rd_isC hg hT hR (by omega) (by omega) ?_))
    by_cases z91 : tx_k T p = 91
    · rw [decide_eq_true z91]
      refine nd_if_eqB hC (tgt := 73) dX8_unit_43 (by decide) (fun hq => absurd hq (by decide)) (fun _ => ?_)
      have hh := tx_on_h (T := T) (p := p) (by omega) hp
      refine nd_aload_n hC dX8_unit_46 rfl rfl ?_
      cases k with
      | zero =>
        have ef : tx_unW T sm (tx_dn un 0) p = .inr (4, tx_b T p) := by unfold tx_unW; rw [if_neg zn2, if_pos z91]; rfl
        rw [ef] at he hmc hms
        have hmc : 2 * (T.length - p) + 2 = mc := hmc
        have hms : 4 * (T.length - p) + 9 = ms := hms
        have e6 : dp = 6 := by omega
        subst e6
        refine nd_callV (mm2 := mX8_deeper) (As := []) (mc2 := 1) (ms2 := 8) (d2 := d - 1) hC rfl lkX8_130 ⟨rfl, lmX8_deeper⟩ (hb) rfl (Nat.le_of_ble_eq_true rfl) (by omega) rfl (by exact Nat.le_of_ble_eq_true rfl) (by omega) (by omega) dX8_unit_47 rfl ((rd_deeper0 hg (by omega) hR ?_))
        intro h2 k f2 b2
        exact nd_out hC rfl (by omega) (by omega) (he _ rfl h2 k f2 b2)
      | succ k2 =>
        have ef : tx_unW T sm (tx_dn un (k2 + 1)) p = tx_bind (tx_trW T (un k2) (tx_h T p)) (tx_must T 93) := by
          unfold tx_unW
          rw [if_neg zn2, if_pos z91]
          show tx_bind (tx_bind (tx_on T p) (tx_trW T (un k2))) (tx_must T 93) = _
          rw [show tx_bind (tx_on T p) (tx_trW T (un k2)) = tx_trW T (un k2) (tx_h T p) from tx_bind_0 _ _]
        rw [ef] at hk he hmc hms
        have IH := hV k2 rfl
        have hGs := tx_G_trW (hGu k2) (tx_h T p) hh.2
        have hc9 := rc_bind (p := p) (by omega) hh.2 hGs (tx_G_must T 93)
        rw [hmc, hms] at hc9
        refine nd_callV (mm2 := mX8_deeper) (As := []) (mc2 := 0) (ms2 := 0) (d2 := d - 1) hC rfl lkX8_130 ⟨rfl, lmX8_deeper⟩ (hb) rfl (Nat.le_of_ble_eq_true rfl) (by omega) rfl (by exact Nat.le_of_ble_eq_true rfl) (by omega) (by omega) dX8_unit_47 rfl ((rd_deeper1 hg (by omega) hT hr hp hR (by omega) (fun h1 a1 f1 e1 => ?_)))
        have hT1 := hT.f f1 hr
        have hw1 := hw.f f1 hwr
        obtain ⟨nu1, hb1, -⟩ := id a1
        refine nd_aload_n hC dX8_unit_50 rfl rfl ?_
        refine nd_callV (mm2 := mX8_truth) (As := []) (mc2 := rc T (tx_trW T (un k2) (tx_h T p)) (tx_h T p)) (ms2 := rs T (tx_trW T (un k2) (tx_h T p)) (tx_h T p)) (d2 := d - 1) hC rfl lkX8_173 ⟨rfl, lmX8_truth⟩ (hb1) rfl (Nat.le_of_ble_eq_true rfl) (by omega) rfl (by exact Nat.le_of_ble_eq_true rfl) (by omega) (by omega) dX8_unit_51 rfl ((IH o h1 _ (tx_h T p) hh.2 hT1 hw1 a1 hro (fun a ha => by rw [e1]; exact hol a ha) (fun x ex h2 o2 a aR af ao asu => ?_) (fun e ee => ?_)))
        rotate_left
        · intro h2 k f2 b2
          exact nd_out hC rfl (by omega) (by omega) (he e (by rw [ee]; rfl) h2 k (f1.trans f2) b2)
        rw [ex] at hk he hmc hms hGs
        have hGs : tx_h T p + x.1.length ≤ x.2 ∧ x.2 ≤ T.length := hGs
        have ec : rc T (tx_trW T (un k2) (tx_h T p)) (tx_h T p) = 2 * (x.2 - tx_h T p) := by rw [ex]; rfl
        have es : rs T (tx_trW T (un k2) (tx_h T p)) (tx_h T p) = 4 * (x.2 - tx_h T p) := by rw [ex]; rfl
        have hT2 := hT1.f af hr
        obtain ⟨nu2, hb2, -⟩ := id aR
        refine nd_astore_n hC dX8_unit_54 (Nat.le_of_ble_eq_true rfl) rfl ?_
        refine nd_aload_n hC dX8_unit_55 rfl rfl ?_
        refine nd_bipush hC (v := nI 93) (by rfl) dX8_unit_56 ?_
        by_cases z93 : tx_k T x.2 = 93
        · have e9 : tx_bind (.inl x) (tx_must T 93) = .inl (x.1 ++ [], tx_h T x.2) := by
            show (match tx_must T 93 x.2 with | .inl y => (.inl (x.1 ++ y.1, y.2) : tx_R) | .inr e => .inr e) = _
            unfold tx_must
            rw [if_pos z93]
          rw [e9] at hk hmc hms
          have hmc : 2 * (tx_h T x.2 - p) = mc := hmc
          have hms : 4 * (tx_h T x.2 - p) = ms := hms
          have hh2 := tx_on_h (T := T) (p := x.2) (by omega) hGs.2
          refine nd_callV (mm2 := mX8_must_2) (As := [_]) (mc2 := 0) (ms2 := 0) (d2 := d - 1) hC rfl lkX8_137 ⟨rfl, lmX8_must_2⟩ (hb2) rfl (Nat.le_of_ble_eq_true rfl) (by omega) rfl (by exact Nat.le_of_ble_eq_true rfl) (by omega) (by omega) dX8_unit_58 rfl ((rd_mustC1 hg (by omega) hT2 hr hGs.2 aR (by omega) (by omega) z93 (fun h3 a3 f3 e3 => ?_)))
          obtain ⟨nu3, hb3, hn3⟩ := id a3
          refine nd_aload_n hC dX8_unit_61 rfl rfl ?_
          refine nd_dup hC (by rfl) dX8_unit_62 ?_
          refine nd_get (ci := nX8) hC in_X8 rfl hb3 8 (by decide) q1632 (fun _ z => z) rfl dX8_unit_63 ?_
          refine nd_iconst hC (v := nI 1) (by rfl) dX8_unit_66 ?_
          first | with_reducible refine nd_isubN hC (by omega) dX8_unit_67 ?_ | refine nd_isub hC dX8_unit_67 ?_
          refine nd_put (ci := nX8) hC in_X8 rfl hb3 8 (by decide) tyX8 tyX8_ok (by decide +kernel) q1632 (fun _ z => z) rfl rfl rfl (by show 8 < 10; decide) dX8_unit_68 ?_
          refine nd_aload_n hC dX8_unit_71 rfl rfl ?_
          refine nd_areturn hC rfl (Or.inl ⟨_, rfl⟩) rfl (by omega) (by omega) dX8_unit_72 (hk _ rfl _ o2 a ⟨nu3, List.getElem?_set_self (nd_get_lt hb3), hn3⟩ (f1.trans (af.trans (f3.trans rd_f.set))) ⟨fun y hy => (ao.1 y (by have := f1.1; omega)), fun y hy => by rw [List.length_set, e3]; exact ao.2 y hy⟩ ?_)
          rw [List.append_nil]
          have hrl2 : r < h2.length := nd_get_lt hb2
          obtain ⟨F, asu⟩ := asu
          exact ⟨F, tr_at.mono (Nat.le_refl _) (by show x.2 - tx_h T p ≤ tx_h T x.2 - p; omega) (asu.g ao.2 (by rw [ao.1 r (by have := f1.1; omega)]; exact hro) (f3.trans rd_f.set) (fun _ _ => rfl))⟩
        · have e9 : tx_bind (.inl x) (tx_must T 93) = .inr (tx_e T x.2 2) := by
            show (match tx_must T 93 x.2 with | .inl y => (.inl (x.1 ++ y.1, y.2) : tx_R) | .inr e => .inr e) = _
            unfold tx_must
            rw [if_neg z93]
          rw [e9] at he hmc hms
          have hmc : 2 * (T.length - p) + 2 = mc := hmc
          have hms : 4 * (T.length - p) + 9 = ms := hms
          refine nd_callV (mm2 := mX8_must_2) (As := [_]) (mc2 := 1) (ms2 := 8) (d2 := d - 1) hC rfl lkX8_137 ⟨rfl, lmX8_must_2⟩ (hb2) rfl (Nat.le_of_ble_eq_true rfl) (by omega) rfl (by exact Nat.le_of_ble_eq_true rfl) (by omega) (by omega) dX8_unit_58 rfl ((rd_mustC0 hg (by omega) hT2 hr hGs.2 aR (by omega) (by omega) z93 ?_))
          intro h3 k f3 b3
          exact nd_out hC rfl (by omega) (by omega) (he _ rfl h3 k (f1.trans (af.trans f3)) b3)
    rw [decide_eq_false z91]
    refine nd_if_eqB hC (tgt := 73) dX8_unit_43 (by decide) (fun _ => ?_) (fun hq => absurd hq (by decide))
    have ef : tx_unW T sm (tx_dn un k) p = tx_bind (sm p) (tx_cp T sm) := by
      unfold tx_unW
      rw [if_neg zn2, if_neg z91]
    rw [ef] at hk he hmc hms
    have hGp := hGs p hp
    have hc9 := rc_bind (p := p) (q := p) (Nat.le_refl _) hp hGp (tx_G_cp hGs)
    rw [hmc, hms] at hc9
    refine nd_aload_n hC dX8_unit_73 rfl rfl ?_
    refine nd_callV (mm2 := mX8_sum) (As := []) (mc2 := rc T (sm p) p) (ms2 := rs T (sm p) p) (d2 := d - 1) hC rfl lkX8_133 ⟨rfl, lmX8_sum⟩ (hb) rfl (Nat.le_of_ble_eq_true rfl) (by omega) rfl (by exact Nat.le_of_ble_eq_true rfl) (by omega) (by omega) dX8_unit_74 rfl ((hS o h _ p hp hT hw hR hro hol (fun x ex h1 o1 a1 aR af ao asu => ?_) (fun e ee => ?_)))
    rotate_left
    · intro h2 k f2 b2
      exact nd_out hC rfl (by omega) (by omega) (he e (by rw [ee]; rfl) h2 k f2 b2)
    rw [ex] at hk he hmc hms hGp
    have hgx : p + x.1.length ≤ x.2 ∧ x.2 ≤ T.length := hGp
    have ecx : rc T (sm p) p = 2 * (x.2 - p) := by rw [ex]; rfl
    have esx : rs T (sm p) p = 4 * (x.2 - p) := by rw [ex]; rfl
    obtain ⟨nu1, hb1, -⟩ := id aR
    have hT1 := hT.f af hr
    have hw1 := hw.f af hwr
    have hro1 : o1 r ≠ 1 := by rw [ao.1 r hrl]; exact hro
    have hol1 := ao.2
    have hgrow := af.1
    have kl := kd_le (tx_k T x.2)
    have J : ∀ sg c, (sg = 61 ∧ c = 13 ∨ sg = 60 ∧ c = 14 ∨ sg = 62 ∧ c = 15) → tx_k T x.2 = sg → nd_W g mX8_unit d mc ms K X 110 [some (.ref r), some (.ref a1), none] [] h1 (rc T (sm p) p) (rs T (sm p) p) := by
      intro sg c hsg ek
      have hcm : tx_cmp (tx_k T x.2) = some c := by
        rw [ek]
        rcases hsg with ⟨e1, e2⟩ | ⟨e1, e2⟩ | ⟨e1, e2⟩ <;> subst e1 <;> subst e2 <;> rfl
      have hsg4 : 4 ≤ tx_k T x.2 ∧ tx_k T x.2 < 128 := by omega
      have hk0 : tx_k T x.2 ≠ 0 := by omega
      have hh := tx_on_h (T := T) (p := x.2) hk0 hgx.2
      have hcC := cp_cost (p := p) hcm hGs hk0 (by omega) hgx.2
      rw [hmc, hms] at hcC
      obtain ⟨kc1, kc2, -⟩ := tx_kc hsg4.1
      obtain ⟨tf, t1, t2, t3, t4⟩ := id hT1
      have esg : tf (tx_b T x.2) = nI sg := by rw [t2 _ kc2, ← kc1, ek]; exact i_sb_small (by omega)
      refine nd_aload_n hC dX8_unit_110 rfl rfl ?_
      refine nd_get (ci := nX8) hC in_X8 rfl hb1 1 (by decide) q1625 (fun _ z => z) rfl dX8_unit_111 ?_
      refine nd_aload_n hC dX8_unit_114 rfl rfl ?_
      refine nd_get (ci := nX8) hC in_X8 rfl hb1 4 (by decide) q1628 (fun _ z => z) rfl dX8_unit_115 ?_
      refine nd_baloadN hC t1 (by omega) (by omega) dX8_unit_118 ?_
      refine nd_v_eq (congrArg Value.int (esg)) ?_
      refine nd_istore_n hC dX8_unit_119 (Nat.le_of_ble_eq_true rfl) ?_
      refine nd_aload_n hC dX8_unit_120 rfl rfl ?_
      refine nd_callV (mm2 := mX8_next) (As := []) (mc2 := 0) (ms2 := 0) (d2 := d - 1) hC rfl lkX8_48 ⟨rfl, lmX8_next⟩ (hb1) rfl (Nat.le_of_ble_eq_true rfl) (by omega) rfl (by exact Nat.le_of_ble_eq_true rfl) (by omega) (by omega) dX8_unit_121 rfl ((rd_on hg (by omega) hT1 hr hgx.2 aR (fun h2 a2 f2 e2 => ?_)))
      refine nd_new (ci := nX17) hC [.null, .null, .int 0] in_X17 rfl tyX17 tyX17_ok q1875 q1876 q184 rfl rfl (by omega) (by omega) dX8_unit_124 ?_
      have hR3 : rd_R (h2 ++ [(.inr (nX17, [.null, .null, .int 0]) : nd_C)]) r wr md T (tx_h T x.2) dp m := a2.f (List.getElem?_append_left a2.lt)
      have fA : rd_f r h1 (h2 ++ [(.inr (nX17, [.null, .null, .int 0]) : nd_C)]) := f2.trans rd_f.app
      have hT3 := hT1.f fA hr
      have hw3 := hw1.f fA hwr
      obtain ⟨nu3, hb3, -⟩ := id hR3
      have lA : (h2 ++ [(.inr (nX17, [.null, .null, .int 0]) : nd_C)]).length = h1.length + 1 := by rw [List.length_append, e2]; rfl
      refine nd_dup hC (by rfl) dX8_unit_127 ?_
      refine nd_aload_n hC dX8_unit_128 rfl rfl ?_
      refine nd_iload_n hC dX8_unit_129 rfl ?_
      refine nd_aload_n hC dX8_unit_130 rfl rfl ?_
      refine nd_callV (mm2 := mX8_sum) (As := []) (mc2 := rc T (sm (tx_h T x.2)) (tx_h T x.2)) (ms2 := rs T (sm (tx_h T x.2)) (tx_h T x.2)) (d2 := d - 1) hC rfl lkX8_133 ⟨rfl, lmX8_sum⟩ (hb3) rfl (Nat.le_of_ble_eq_true rfl) (by omega) rfl (by exact Nat.le_of_ble_eq_true rfl) (by omega) (by omega) dX8_unit_131 rfl ((hS o1 _ _ (tx_h T x.2) hh.2 hT3 hw3 hR3 hro1 (fun a ha => by rw [lA]; have := hol1 a ha; omega) (fun y ey h3 o3 b3 bR bf bo bsu => ?_) (fun e ee => ?_)))
      rotate_left
      · intro h9 k f9 b9
        exact nd_out hC rfl (by omega) (by omega) (he e (by rw [cp_ok2 hcm, ee]) h9 k (af.trans (fA.trans f9)) b9)
      have hgy : tx_h T x.2 + y.1.length ≤ y.2 ∧ y.2 ≤ T.length := by
        have := hGs _ hh.2
        rw [ey] at this
        exact this
      have ecy : rc T (sm (tx_h T x.2)) (tx_h T x.2) = 2 * (y.2 - tx_h T x.2) := by rw [ey]; rfl
      have esy : rs T (sm (tx_h T x.2)) (tx_h T x.2) = 4 * (y.2 - tx_h T x.2) := by rw [ey]; rfl
      have hrl1 := aR.lt
      have cL : h3[h2.length]? = some (.inr (nX17, [.null, .null, .int 0])) := (bf.2 h2.length (by rw [lA]; omega) (by omega)).trans l_at_last
      have hL3 : h2.length < h3.length := nd_get_lt cL
      have fB : rd_f r h1 h3 := fA.trans bf
      have hO : ∀ a, a ≤ h1.length → o3 a = o1 a := fun a ha => bo.1 a (by rw [lA]; omega)
      refine nd_callI (mm2 := mX17_init) (As := [_, _, _]) (mc2 := 0) (ms2 := 0) (d2 := d - 1) hC rfl rfl q1879 q184 q1877 q1878 rfl lmX17_init (Nat.le_of_ble_eq_true rfl) (by omega) rfl (by exact Nat.le_of_ble_eq_true rfl) (by omega) (by omega) dX8_unit_134 rfl ((ni_X17 hg cL ?_))
      rw [cp_ok2 hcm, ey] at hk
      refine nd_areturn hC rfl (Or.inl ⟨_, rfl⟩) rfl (by omega) (by omega) dX8_unit_137 (hk _ rfl _ (oT o3 h2.length) _ (bR.f (List.getElem?_set_ne (by omega))) (af.trans (fB.setL (by omega))) (ao.trans ((bo.pre (h := h1) (by omega)).setL (by omega) hL3) hgrow) ?_)
      exact tr_cmp hsg e2 asu hol1 hro1 fB hO bsu hL3 (by have := asu.pos; have := bsu.pos; show _ ≤ y.2 - p; omega) (by have := asu.pos; have := bsu.pos; show _ ≤ y.2 - p; omega)
    refine nd_astore_n hC dX8_unit_77 (Nat.le_of_ble_eq_true rfl) rfl ?_
    refine nd_aload_n hC dX8_unit_78 rfl rfl ?_
    refine nd_bipush hC (v := nI 61) (by rfl) dX8_unit_79 ?_
    refine nd_callV (mm2 := mX8_is_2) (As := [_]) (mc2 := 0) (ms2 := 0) (d2 := d - 1) hC rfl lkX8_88 ⟨rfl, lmX8_is_2⟩ (hb1) rfl (Nat.le_of_ble_eq_true rfl) (by omega) rfl (by exact Nat.le_of_ble_eq_true rfl) (by omega) (by omega) dX8_unit_81 rfl ((rd_isC hg hT1 aR (by omega) (by omega) ?_))
    by_cases z1 : tx_k T x.2 = 61
    · rw [decide_eq_true z1]
      refine nd_if_neB hC (tgt := 110) dX8_unit_84 (by decide) (fun _ => ?_) (fun hq => absurd hq (by decide))
      exact nd_widen (by omega) (by omega) (J 61 13 (by omega) z1)
    rw [decide_eq_false z1]
    refine nd_if_neB hC (tgt := 110) dX8_unit_84 (by decide) (fun hq => absurd hq (by decide)) (fun _ => ?_)
    refine nd_aload_n hC dX8_unit_87 rfl rfl ?_
    refine nd_bipush hC (v := nI 60) (by rfl) dX8_unit_88 ?_
    refine nd_callV (mm2 := mX8_is_2) (As := [_]) (mc2 := 0) (ms2 := 0) (d2 := d - 1) hC rfl lkX8_88 ⟨rfl, lmX8_is_2⟩ (hb1) rfl (Nat.le_of_ble_eq_true rfl) (by omega) rfl (by exact Nat.le_of_ble_eq_true rfl) (by omega) (by omega) dX8_unit_90 rfl ((rd_isC hg hT1 aR (by omega) (by omega) ?_))
    by_cases z2 : tx_k T x.2 = 60
    · rw [decide_eq_true z2]
      refine nd_if_neB hC (tgt := 110) dX8_unit_93 (by decide) (fun _ => ?_) (fun hq => absurd hq (by decide))
      exact nd_widen (by omega) (by omega) (J 60 14 (by omega) z2)
    rw [decide_eq_false z2]
    refine nd_if_neB hC (tgt := 110) dX8_unit_93 (by decide) (fun hq => absurd hq (by decide)) (fun _ => ?_)
    refine nd_aload_n hC dX8_unit_96 rfl rfl ?_
    refine nd_bipush hC (v := nI 62) (by rfl) dX8_unit_97 ?_
    refine nd_callV (mm2 := mX8_is_2) (As := [_]) (mc2 := 0) (ms2 := 0) (d2 := d - 1) hC rfl lkX8_88 ⟨rfl, lmX8_is_2⟩ (hb1) rfl (Nat.le_of_ble_eq_true rfl) (by omega) rfl (by exact Nat.le_of_ble_eq_true rfl) (by omega) (by omega) dX8_unit_99 rfl ((rd_isC hg hT1 aR (by omega) (by omega) ?_))
    by_cases z3 : tx_k T x.2 = 62
    · rw [decide_eq_true z3]
      refine nd_if_neB hC (tgt := 110) dX8_unit_102 (by decide) (fun _ => ?_) (fun hq => absurd hq (by decide))
      exact nd_widen (by omega) (by omega) (J 62 15 (by omega) z3)
    rw [decide_eq_false z3]
    refine nd_if_neB hC (tgt := 110) dX8_unit_102 (by decide) (fun hq => absurd hq (by decide)) (fun _ => ?_)
    have e9 : tx_bind (.inl x) (tx_cp T sm) = .inr (tx_e T x.2 2) := by
      show (match tx_cp T sm x.2 with | .inl y => (.inl (x.1 ++ y.1, y.2) : tx_R) | .inr e => .inr e) = _
      unfold tx_cp tx_cmp
      rw [if_neg z1, if_neg z2, if_neg z3]
    rw [e9] at he hmc hms
    have hmc : 2 * (T.length - p) + 2 = mc := hmc
    have hms : 4 * (T.length - p) + 9 = ms := hms
    refine nd_aload_n hC dX8_unit_105 rfl rfl ?_
    refine nd_callV (mm2 := mX8_wrong) (As := []) (mc2 := 1) (ms2 := 8) (d2 := d - 1) hC rfl lkX8_94 ⟨rfl, lmX8_wrong⟩ (hb1) rfl (Nat.le_of_ble_eq_true rfl) (by omega) rfl (by exact Nat.le_of_ble_eq_true rfl) (by omega) (by omega) dX8_unit_106 rfl ((rd_wrong hg (by omega) aR (fun h2 k f2 b2 => ?_)))
    exact nd_athrow hC b2 rfl dX8_unit_109 (nd_out hC rfl (by omega) (by omega) (he _ rfl h2 k (af.trans f2) b2))
/-- TRUTHS: the class reads them as plain text says -/
theorem rd_unit (hg : nd_OK g) (hr : r ≠ 92) (hwr : wr ≠ r) (hm : m ≤ 8) : ∀ (k d dp : Nat), 4 * k + 16 ≤ d → dp + k = 6 → rd_V g mX8_unit d T r wr md dp m (tx_unit T m k) := by
  intro k
  induction k with
  | zero =>
    intro d dp hd hdp
    rw [tx_unit_eq]
    exact rd_unit0 hg hd hr hwr hdp (tx_G_sum T m 0) (rd_sum hg hr hwr hm 0 _ _ (by omega) hdp) (tx_G_unit T m) (fun k2 e => by omega) (fun k2 e => by omega)
  | succ k ih =>
    intro d dp hd hdp
    rw [tx_unit_eq]
    refine rd_unit0 hg (by omega) hr hwr hdp (tx_G_sum T m (k + 1)) (rd_sum hg hr hwr hm (k + 1) _ _ (by omega) hdp) (tx_G_unit T m) (fun k2 e => ?_) (fun k2 e => ?_)
    · have e : k2 = k := by omega
      subst e
      exact ih _ _ (by omega) (by omega)
    · have e : k2 = k := by omega
      subst e
      exact rd_truth0 hg (by omega) hr hwr (tx_G_both (tx_G_unit T m k2)) (rd_both0 hg (by omega) hr hwr (tx_G_unit T m k2) (ih _ _ (by omega) (by omega)))
theorem rd_truth (hg : nd_OK g) (hr : r ≠ 92) (hwr : wr ≠ r) (hm : m ≤ 8) {k : Nat} (hd : 4 * k + 18 ≤ d) (hdp : dp + k = 6) : rd_V g mX8_truth d T r wr md dp m (tx_truth T m k) :=
  rd_truth0 hg (by omega) hr hwr (tx_G_both (tx_G_unit T m k)) (rd_both0 hg (by omega) hr hwr (tx_G_unit T m k) (rd_unit hg hr hwr hm k _ _ (by omega) hdp))
end RD98

