set_option maxRecDepth 100000
/-! ===== the class's reader: all lines; the constructor ===== -/
theorem rc_le {T : List Nat} {p q : Nat} {R : tx_R} (h : tx_gd T q R) (hp : p ≤ T.length) : rc T R p ≤ 2 * (T.length - p) + 2 ∧ rs T R p ≤ 4 * (T.length - p) + 9 := by
  cases R with
  | inr e => exact ⟨Nat.le_refl _, Nat.le_refl _⟩
  | inl x =>
    have h1 : q + x.1.length ≤ x.2 ∧ x.2 ≤ T.length := h
    exact ⟨(by show 2 * (x.2 - p) ≤ _; omega), (by show 4 * (x.2 - p) ≤ _; omega)⟩
section RD992
variable {g : nd_G} {mm : nd_Mt} {d mc ms : Nat} {K : nd_K} {X : nd_X} {h : nd_H} {o : Nat → Nat} {T : List Nat} {r p m : Nat} {N : tx_N}
theorem rd_line (hg : nd_OK g) (hd : 45 ≤ d) (HI : rd_I o h r T p m N) (hp : p ≤ T.length) (hN1 : N.1.length ≤ 6) (hN2 : N.2.1.length = N.1.length) (hN3 : N.2.2.1.length ≤ 4) (hk : ∀ x, tx_body T N (tx_sort T p) p = .inl x → ∀ h2 o2 m2, rd_I o2 h2 r T x.2 m2 (tx_put N (tx_sort T p) x.1) → rd_g r h h2 → K (.inl none) h2) (he : ∀ e, tx_body T N (tx_sort T p) p = .inr e → ∀ h2 k, rd_g r h h2 → rd_B h2 k e → K (.inr (eBad, k)) h2) : nd_M g mX8_line d (rc T (tx_body T N (tx_sort T p) p) p) (rs T (tx_body T N (tx_sort T p) p) p) [.ref r] h K := by
  have h92 : r ≠ 92 := by have := HI.2.2.2.2.2.2; omega
  have hm8 := HI.2.2.2.2.2.1
  obtain ⟨c1_0, c2_0, c3_0, ⟨wv0, kv0, hv0, d1_0, d2_0, d3_0, d4_0, -⟩, -⟩ := id HI
  obtain ⟨nu0, hb0, -⟩ := id c3_0
  obtain ⟨mf0, ef0, hf0⟩ := d2_0.sz
  obtain ⟨mb0, eb0, hk0⟩ := d3_0.sz
  obtain ⟨mg0, eg0, hg0⟩ := d4_0.sz
  have hl0 := HI.hl
  generalize hmc : rc T (tx_body T N (tx_sort T p) p) p = mc
  generalize hms : rs T (tx_body T N (tx_sort T p) p) p = ms
  refine nd_enter hg (by decide) rfl (Nat.le_of_ble_eq_true rfl) (fun X hC => ?_)
  refine nd_aload_n hC dX8_line_0 rfl rfl ?_
  refine nd_ldcS hC (i := 9) (r := ("NapkinDeeds$Reader", 196, "cell", [99, 101, 108, 108])) rfl rfl dX8_line_1 ?_
  refine nd_callV (mm2 := mX8_is) (As := [_]) (mc2 := 0) (ms2 := 0) (d2 := d - 1) hC rfl lkX8_84 ⟨rfl, lmX8_is⟩ (hb0) rfl (Nat.le_of_ble_eq_true rfl) (by omega) rfl (by exact Nat.le_of_ble_eq_true rfl) (by omega) (by omega) dX8_line_3 rfl ((rd_isS (i := 9) hg (by omega) c1_0 c3_0 rfl ?_))
  show nd_W _ _ _ _ _ _ _ _ _ [.int (nd_b (tx_w T p tx_cell))] _ _ _
  cases w1 : tx_w T p tx_cell with
  | true =>
    have es : tx_sort T p = 0 := by unfold tx_sort; rw [if_pos w1]
    rw [es] at hk he hmc hms
    refine nd_if_eqB hC (tgt := 81) dX8_line_6 (by decide) (fun hq => absurd hq (by decide)) (fun _ => ?_)
    exact nd_widen (by omega) (by omega) (rd_lnC hg (by omega) hC HI hp hN1 hN2 w1 hmc hms hk he)
  | false =>
  have w1 : ¬ tx_w T p tx_cell = true := by rw [w1]; decide
  refine nd_if_eqB hC (tgt := 81) dX8_line_6 (by decide) (fun _ => ?_) (fun hq => absurd hq (by decide))
  refine nd_aload_n hC dX8_line_81 rfl rfl ?_
  refine nd_ldcS hC (i := 6) (r := ("NapkinDeeds$Reader", 23, "guest", [103, 117, 101, 115, 116])) rfl rfl dX8_line_82 ?_
  refine nd_callV (mm2 := mX8_is) (As := [_]) (mc2 := 0) (ms2 := 0) (d2 := d - 1) hC rfl lkX8_84 ⟨rfl, lmX8_is⟩ (hb0) rfl (Nat.le_of_ble_eq_true rfl) (by omega) rfl (by exact Nat.le_of_ble_eq_true rfl) (by omega) (by omega) dX8_line_84 rfl ((rd_isS (i := 6) hg (by omega) c1_0 c3_0 rfl ?_))
  show nd_W _ _ _ _ _ _ _ _ _ [.int (nd_b (tx_w T p tx_guest))] _ _ _
  cases w2 : tx_w T p tx_guest with
  | true =>
    have es : tx_sort T p = 1 := by unfold tx_sort; rw [if_neg w1, if_pos w2]
    rw [es] at hk he hmc hms
    refine nd_if_eqB hC (tgt := 137) dX8_line_87 (by decide) (fun hq => absurd hq (by decide)) (fun _ => ?_)
    exact nd_widen (by omega) (by omega) (rd_lnG hg (by omega) hC HI hp hN3 w2 hmc hms hk he)
  | false =>
  have w2 : ¬ tx_w T p tx_guest = true := by rw [w2]; decide
  refine nd_if_eqB hC (tgt := 137) dX8_line_87 (by decide) (fun _ => ?_) (fun hq => absurd hq (by decide))
  refine nd_aload_n hC dX8_line_137 rfl rfl ?_
  refine nd_ldcS hC (i := 11) (r := ("NapkinDeeds$Reader", 230, "worth", [119, 111, 114, 116, 104])) rfl rfl dX8_line_138 ?_
  refine nd_callV (mm2 := mX8_eats) (As := [_]) (mc2 := 0) (ms2 := 0) (d2 := d - 1) hC rfl lkX8_91 ⟨rfl, lmX8_eats⟩ (hb0) rfl (Nat.le_of_ble_eq_true rfl) (by omega) rfl (by exact Nat.le_of_ble_eq_true rfl) (by omega) (by omega) dX8_line_140 rfl ((rd_eatsS (i := 11) hg (by omega) c1_0 h92 hp c3_0 rfl (fun z h1 R1 f1 e1 => ?_) (fun z => ?_)))
  · have z : tx_w T p tx_worth = true := z
    have es : tx_sort T p = 2 := by unfold tx_sort; rw [if_neg w1, if_neg w2, if_pos z]
    rw [es] at hk he hmc hms
    have g1 : rd_g r h h1 := f1.g (by omega)
    refine nd_if_eqB hC (tgt := 166) dX8_line_143 (by decide) (fun hq => absurd hq (by decide)) (fun _ => ?_)
    exact nd_widen (by omega) (by omega) (rd_lnW hg (by omega) hC (HI.f R1 f1 hm8) hp (by rw [tx_w_k z]; decide) hmc hms (fun x ex h2 o2 m2 i2 g2 => hk x ex h2 o2 m2 i2 (g1.trans g2)) (fun e ee h2 k g2 b2 => he e ee h2 k (g1.trans g2) b2))
  have w3 : ¬ tx_w T p tx_worth = true := by
    have z : tx_w T p tx_worth = false := z
    rw [z]; decide
  refine nd_if_eqB hC (tgt := 166) dX8_line_143 (by decide) (fun _ => ?_) (fun hq => absurd hq (by decide))
  refine nd_aload_n hC dX8_line_166 rfl rfl ?_
  refine nd_ldcS hC (i := 12) (r := ("NapkinDeeds$Reader", 238, "holds", [104, 111, 108, 100, 115])) rfl rfl dX8_line_167 ?_
  refine nd_callV (mm2 := mX8_eats) (As := [_]) (mc2 := 0) (ms2 := 0) (d2 := d - 1) hC rfl lkX8_91 ⟨rfl, lmX8_eats⟩ (hb0) rfl (Nat.le_of_ble_eq_true rfl) (by omega) rfl (by exact Nat.le_of_ble_eq_true rfl) (by omega) (by omega) dX8_line_169 rfl ((rd_eatsS (i := 12) hg (by omega) c1_0 h92 hp c3_0 rfl (fun z h1 R1 f1 e1 => ?_) (fun z => ?_)))
  · have z : tx_w T p tx_holds = true := z
    have es : tx_sort T p = 3 := by unfold tx_sort; rw [if_neg w1, if_neg w2, if_neg w3, if_pos z]
    rw [es] at hk he hmc hms
    have g1 : rd_g r h h1 := f1.g (by omega)
    refine nd_if_eqB hC (tgt := 195) dX8_line_172 (by decide) (fun hq => absurd hq (by decide)) (fun _ => ?_)
    exact nd_widen (by omega) (by omega) (rd_lnH hg (by omega) hC (HI.f R1 f1 hm8) hp (by rw [tx_w_k z]; decide) hmc hms (fun x ex h2 o2 m2 i2 g2 => hk x ex h2 o2 m2 i2 (g1.trans g2)) (fun e ee h2 k g2 b2 => he e ee h2 k (g1.trans g2) b2))
  have w4 : ¬ tx_w T p tx_holds = true := by
    have z : tx_w T p tx_holds = false := z
    rw [z]; decide
  refine nd_if_eqB hC (tgt := 195) dX8_line_172 (by decide) (fun _ => ?_) (fun hq => absurd hq (by decide))
  refine nd_aload_n hC dX8_line_195 rfl rfl ?_
  refine nd_ldcS hC (i := 16) (r := ("NapkinDeeds$Reader", 243, "likes", [108, 105, 107, 101, 115])) rfl rfl dX8_line_196 ?_
  refine nd_callV (mm2 := mX8_eats) (As := [_]) (mc2 := 0) (ms2 := 0) (d2 := d - 1) hC rfl lkX8_91 ⟨rfl, lmX8_eats⟩ (hb0) rfl (Nat.le_of_ble_eq_true rfl) (by omega) rfl (by exact Nat.le_of_ble_eq_true rfl) (by omega) (by omega) dX8_line_198 rfl ((rd_eatsS (i := 16) hg (by omega) c1_0 h92 hp c3_0 rfl (fun z h1 R1 f1 e1 => ?_) (fun z => ?_)))
  · have z : tx_w T p tx_likes = true := z
    have es : tx_sort T p = 4 := by unfold tx_sort; rw [if_neg w1, if_neg w2, if_neg w3, if_neg w4, if_pos z]
    rw [es] at hk he hmc hms
    have g1 : rd_g r h h1 := f1.g (by omega)
    refine nd_if_eqB hC (tgt := 224) dX8_line_201 (by decide) (fun hq => absurd hq (by decide)) (fun _ => ?_)
    exact nd_widen (by omega) (by omega) (rd_lnL hg (by omega) hC (HI.f R1 f1 hm8) hp (by rw [tx_w_k z]; decide) hmc hms (fun x ex h2 o2 m2 i2 g2 => hk x ex h2 o2 m2 i2 (g1.trans g2)) (fun e ee h2 k g2 b2 => he e ee h2 k (g1.trans g2) b2))
  have w5 : ¬ tx_w T p tx_likes = true := by
    have z : tx_w T p tx_likes = false := z
    rw [z]; decide
  refine nd_if_eqB hC (tgt := 224) dX8_line_201 (by decide) (fun _ => ?_) (fun hq => absurd hq (by decide))
  have es : tx_sort T p = 5 := by unfold tx_sort; rw [if_neg w1, if_neg w2, if_neg w3, if_neg w4, if_neg w5]
  rw [es] at he hmc hms
  have hmc : 2 * (T.length - p) + 2 = mc := hmc
  have hms : 4 * (T.length - p) + 9 = ms := hms
  refine nd_aload_n hC dX8_line_224 rfl rfl ?_
  refine nd_callV (mm2 := mX8_wrong) (As := []) (mc2 := 1) (ms2 := 8) (d2 := d - 1) hC rfl lkX8_94 ⟨rfl, lmX8_wrong⟩ (hb0) rfl (Nat.le_of_ble_eq_true rfl) (by omega) rfl (by exact Nat.le_of_ble_eq_true rfl) (by omega) (by omega) dX8_line_225 rfl ((rd_wrong hg (by omega) c3_0 (fun h2 k f2 b2 => ?_)))
  exact nd_athrow hC b2 rfl dX8_line_228 (nd_out hC rfl (by omega) (by omega) (he _ rfl h2 k (f2.g (by omega)) b2))
theorem rd_all (hg : nd_OK g) (hd : 46 ≤ d) (hT9 : T.length ≤ 900) (HI : rd_I o h r T 0 0 tx_0) (hk : ∀ N, tx_read T = .inl N → ∀ h2 o2, rd_N o2 h2 r N → tx_NI N → (∀ a, o2 a ≠ 0 → r + 6 ≤ a ∧ a < h2.length) → rd_g r h h2 → K (.inl (some (.ref (r + 2)))) h2) (he : ∀ e, tx_read T = .inr e → ∀ h2 k, rd_g r h h2 → rd_B h2 k e → K (.inr (eBad, k)) h2) : nd_M g mX8_all d (2 * T.length + 2) (4 * T.length + 9) [.ref r] h K := by
  have h92 : r ≠ 92 := by have := HI.2.2.2.2.2.2; omega
  refine nd_enter hg (by decide) rfl (Nat.le_of_ble_eq_true rfl) (fun X hC => ?_)
  have LP : ∀ (fu p : Nat) (N : tx_N) (h1 : nd_H) (o1 : Nat → Nat) (m1 : Nat), T.length + 1 - p ≤ fu → p ≤ T.length → tx_NI N → rd_I o1 h1 r T p m1 N → rd_g r h h1 → tx_read T = tx_all T fu N p → nd_W g mX8_all d (2 * T.length + 2) (4 * T.length + 9) K X 0 [some (.ref r)] [] h1 (2 * p) (4 * p) := by
    intro fu
    induction fu with
    | zero => intro p N h1 o1 m1 z1 z2; omega
    | succ fu ih =>
      intro p N h1 o1 m1 z1 z2 hN I1 g1 et
      have hm8 := I1.2.2.2.2.2.1
      obtain ⟨c1_1, c2_1, c3_1, ⟨wv1, kv1, hv1, d1_1, d2_1, d3_1, d4_1, -⟩, -⟩ := id I1
      obtain ⟨nu1, hb1, -⟩ := id c3_1
      obtain ⟨mf1, ef1, hf1⟩ := d2_1.sz
      obtain ⟨mb1, eb1, hk1⟩ := d3_1.sz
      obtain ⟨mg1, eg1, hg1⟩ := d4_1.sz
      have hl1 := I1.hl
      have kl := kd_le (tx_k T p)
      have et : tx_read T = if tx_k T p = 0 then .inl N else match tx_line T N p with | .inl x => tx_all T fu x.1 x.2 | .inr e => .inr e := et
      refine nd_aload_n hC dX8_all_0 rfl rfl ?_
      refine nd_get (ci := nX8) hC in_X8 rfl hb1 6 (by decide) q1630 (fun _ z => z) rfl dX8_all_1 ?_
      first | with_reducible refine nd_if_eqB hC (tgt := 33) dX8_all_4 (by decide) (fun hq => ?_) (fun hq => ?_) | with_reducible refine nd_if_eqN hC (tgt := 33) (by omega) dX8_all_4 (by decide) (fun hq => ?_) (fun hq => ?_) | refine nd_if_eq hC (tgt := 33) dX8_all_4 (by decide) (fun hq => ?_) (fun hq => ?_)
      · have z : tx_k T p = 0 := kd_0.1 (by omega)
        rw [if_pos z] at et
        obtain ⟨-, -, -, n1, n2, -⟩ := id I1
        refine nd_aload_n hC dX8_all_33 rfl rfl ?_
        refine nd_get (ci := nX8) hC in_X8 rfl hb1 3 (by decide) q1627 (fun _ z => z) rfl dX8_all_34 ?_
        refine nd_areturn hC rfl (Or.inl ⟨_, rfl⟩) rfl (by omega) (by omega) dX8_all_37 (hk N et h1 o1 n1 hN n2 g1)
      have z : tx_k T p ≠ 0 := fun y => hq (kd_0.2 y)
      rw [if_neg z] at et
      have hb9 := tx_gd_body N z2
      have hc9 := rc_le hb9 z2
      refine nd_aload_n hC dX8_all_7 rfl rfl ?_
      refine nd_callV (mm2 := mX8_line) (As := []) (mc2 := rc T (tx_body T N (tx_sort T p) p) p) (ms2 := rs T (tx_body T N (tx_sort T p) p) p) (d2 := d - 1) hC rfl lkX8_247 ⟨rfl, lmX8_line⟩ (hb1) rfl (Nat.le_of_ble_eq_true rfl) (by omega) rfl (by exact Nat.le_of_ble_eq_true rfl) (by omega) (by omega) dX8_all_8 rfl ((rd_line hg (by omega) I1 z2 hN.1 hN.2.1 hN.2.2.1 (fun x ex h2 o2 m2 I2 g2 => ?_) (fun e ee h2 k g2 b2 => ?_)))
      rotate_left
      · exact nd_out hC rfl (by omega) (by omega) (he e (by rw [et]; unfold tx_line; rw [ee]; rfl) h2 k (g1.trans g2) b2)
      rw [ex] at hb9
      have hgx : p + 1 + x.1.length ≤ x.2 ∧ x.2 ≤ T.length := hb9
      have ec : rc T (tx_body T N (tx_sort T p) p) p = 2 * (x.2 - p) := by rw [ex]; rfl
      have ess : rs T (tx_body T N (tx_sort T p) p) p = 4 * (x.2 - p) := by rw [ex]; rfl
      obtain ⟨c1_2, c2_2, c3_2, ⟨wv2, kv2, hv2, d1_2, d2_2, d3_2, d4_2, -⟩, -⟩ := id I2
      obtain ⟨nu2, hb2, -⟩ := id c3_2
      obtain ⟨mf2, ef2, hf2⟩ := d2_2.sz
      obtain ⟨mb2, eb2, hk2⟩ := d3_2.sz
      obtain ⟨mg2, eg2, hg2⟩ := d4_2.sz
      have hl2 := I2.hl
      refine nd_aload_n hC dX8_all_11 rfl rfl ?_
      refine nd_get (ci := nX8) hC in_X8 rfl hb2 3 (by decide) q1627 (fun _ z => z) rfl dX8_all_12 ?_
      refine nd_dup hC (by rfl) dX8_all_15 ?_
      refine nd_getN (ci := nX3) hC in_X3 rfl d1_2 3 (by decide) q278 (fun _ z => z) rfl dX8_all_16 ?_
      refine nd_iconst hC (v := nI 1) (by rfl) dX8_all_19 ?_
      first | with_reducible refine nd_iaddN hC dX8_all_20 ?_ | refine nd_iadd hC dX8_all_20 ?_
      refine nd_putN (ci := nX3) hC in_X3 rfl d1_2 3 (by decide) tyX3 tyX3_ok (by decide +kernel) q278 (fun _ z => z) rfl rfl rfl (by show 3 < 7; decide) dX8_all_21 ?_
      obtain ⟨-, -, -, ⟨wv9, kv9, hv9, e9, -, -, -, e5, e6, e7⟩, -⟩ := id I2
      cases d1_2.symm.trans e9
      have I3 := I2.md (N2 := tx_ln1 (tx_put N (tx_sort T p) x.1)) rfl rfl rfl e5 e6 e7
      have g3 := g2.trans (rd_g.setG (r := r) (b := r + 2) (h := h2) (c := .inr (nX3, [.ref (r + 3), .ref (r + 4), .ref (r + 5), .int (nI (tx_ln1 (tx_put N (tx_sort T p) x.1)).2.2.2.1), wv2, kv2, hv2])) (by omega))
      obtain ⟨c1_3, c2_3, c3_3, ⟨wv3, kv3, hv3, d1_3, d2_3, d3_3, d4_3, -⟩, -⟩ := id I3
      obtain ⟨nu3, hb3, -⟩ := id c3_3
      obtain ⟨mf3, ef3, hf3⟩ := d2_3.sz
      obtain ⟨mb3, eb3, hk3⟩ := d3_3.sz
      obtain ⟨mg3, eg3, hg3⟩ := d4_3.sz
      have hl3 := I3.hl
      refine nd_aload_n hC dX8_all_24 rfl rfl ?_
      refine nd_bipush hC (v := nI 59) (by rfl) dX8_all_25 ?_
      by_cases z59 : tx_k T x.2 = 59
      · have el : tx_line T N p = .inl (tx_ln1 (tx_put N (tx_sort T p) x.1), tx_h T x.2) := by
          unfold tx_line
          rw [ex]
          have : tx_must T 59 x.2 = .inl ([], tx_h T x.2) := by unfold tx_must; rw [if_pos z59]
          show (match (match tx_must T 59 x.2 with | .inl y => (.inl (x.1 ++ y.1, y.2) : tx_R) | .inr e => .inr e) with | .inl x => (.inl (tx_ln1 (tx_put N (tx_sort T p) x.1), x.2) : (tx_N × Nat) ⊕ (Nat × Nat)) | .inr e => .inr e) = _
          rw [this]
          show (.inl (tx_ln1 (tx_put N (tx_sort T p) (x.1 ++ [])), tx_h T x.2) : (tx_N × Nat) ⊕ (Nat × Nat)) = _
          rw [List.append_nil]
        rw [el] at et
        have hNI := tx_NI_line hT9 z2 hN el
        have hh := tx_on_h (T := T) (p := x.2) (by omega) hgx.2
        refine nd_callV (mm2 := mX8_must_2) (As := [_]) (mc2 := 0) (ms2 := 0) (d2 := d - 1) hC rfl lkX8_137 ⟨rfl, lmX8_must_2⟩ (hb3) rfl (Nat.le_of_ble_eq_true rfl) (by omega) rfl (by exact Nat.le_of_ble_eq_true rfl) (by omega) (by omega) dX8_all_27 rfl ((rd_mustC1 hg (by omega) c1_3 h92 hgx.2 c3_3 (by omega) (by omega) z59 (fun h4 R4 f4 e4 => ?_)))
        refine nd_goto hC (tgt := 0) dX8_all_30 (by decide) ?_
        exact nd_widen (cs2 := 2 * tx_h T x.2) (ss2 := 4 * tx_h T x.2) (by omega) (by omega) (ih (tx_h T x.2) _ h4 o2 m2 (by omega) hh.2 hNI.1 (I3.f R4 f4 I3.2.2.2.2.2.1) (g1.trans (g3.trans (f4.g (by omega)))) et)
      · have el : tx_line T N p = .inr (tx_e T x.2 2) := by
          unfold tx_line
          rw [ex]
          have : tx_must T 59 x.2 = .inr (tx_e T x.2 2) := by unfold tx_must; rw [if_neg z59]
          show (match (match tx_must T 59 x.2 with | .inl y => (.inl (x.1 ++ y.1, y.2) : tx_R) | .inr e => .inr e) with | .inl x => (.inl (tx_ln1 (tx_put N (tx_sort T p) x.1), x.2) : (tx_N × Nat) ⊕ (Nat × Nat)) | .inr e => .inr e) = _
          rw [this]
        rw [el] at et
        refine nd_callV (mm2 := mX8_must_2) (As := [_]) (mc2 := 1) (ms2 := 8) (d2 := d - 1) hC rfl lkX8_137 ⟨rfl, lmX8_must_2⟩ (hb3) rfl (Nat.le_of_ble_eq_true rfl) (by omega) rfl (by exact Nat.le_of_ble_eq_true rfl) (by omega) (by omega) dX8_all_27 rfl ((rd_mustC0 hg (by omega) c1_3 h92 hgx.2 c3_3 (by omega) (by omega) z59 ?_))
        intro h4 k f4 b4
        exact nd_out hC rfl (by omega) (by omega) (he _ et h4 k (g1.trans (g3.trans (f4.g (by omega)))) b4)
  exact LP (T.length + 1) 0 tx_0 h o 0 (by omega) (Nat.zero_le _) tx_0_ok HI rd_g.rfl rfl

theorem rd_init (hg : nd_OK g) (hd : 8 ≤ d) (hlen : h.length = r + 1) (h123 : 123 ≤ r) (hT : rd_T h T) (hb : h[r]? = some (.inr (nX8, [.null, .null, .int 0, .null, .int 0, .int 0, .int 0, .int 0, .int 0, .int 0]))) (hk : ∀ h2, rd_I (fun _ => 0) h2 r T 0 0 tx_0 → rd_g r h h2 → K (.inl none) h2) : nd_M g mX8_init d 5 24 [.ref r, .ref 92, .int (nI T.length)] h K := by
  refine nd_enter hg (by decide) rfl (Nat.le_of_ble_eq_true rfl) (fun X hC => ?_)
  refine nd_aload_n hC dX8_init_0 rfl rfl ?_
  refine nd_objInit hC q1548 q225 q226 (by exact Nat.le_of_ble_eq_true rfl) dX8_init_1 ?_
  refine nd_aload_n hC dX8_init_4 rfl rfl ?_
  refine nd_bipush hC (v := nI 8) (by rfl) dX8_init_5 ?_
  refine nd_anew hC (C := "java/lang/String") (ty := 9) (N := 8) q1549 q1550 rfl (nI_toInt (by omega)) (by decide) (by omega) (by omega) dX8_init_7 ?_
  refine nd_dup hC (by rfl) dX8_init_10 ?_
  refine nd_iconst hC (v := nI 0) (by rfl) dX8_init_11 ?_
  refine nd_ldcS hC (i := 0) (r := ("NapkinDeeds$Reader", 11, "wide", [119, 105, 100, 101])) rfl rfl dX8_init_12 ?_
  refine nd_astS (i := 0) (j := 0) (n := 8) hC rfl l_at_last (by omega) (by omega) dX8_init_14 ?_
  rw [l_set_last]
  refine nd_dup hC (by rfl) dX8_init_15 ?_
  refine nd_iconst hC (v := nI 1) (by rfl) dX8_init_16 ?_
  refine nd_ldcS hC (i := 1) (r := ("NapkinDeeds$Reader", 13, "high", [104, 105, 103, 104])) rfl rfl dX8_init_17 ?_
  refine nd_astS (i := 1) (j := 1) (n := 8) hC rfl l_at_last (by omega) (by omega) dX8_init_19 ?_
  rw [l_set_last]
  refine nd_dup hC (by rfl) dX8_init_20 ?_
  refine nd_iconst hC (v := nI 2) (by rfl) dX8_init_21 ?_
  refine nd_ldcS hC (i := 2) (r := ("NapkinDeeds$Reader", 15, "folds", [102, 111, 108, 100, 115])) rfl rfl dX8_init_22 ?_
  refine nd_astS (i := 2) (j := 2) (n := 8) hC rfl l_at_last (by omega) (by omega) dX8_init_24 ?_
  rw [l_set_last]
  refine nd_dup hC (by rfl) dX8_init_25 ?_
  refine nd_iconst hC (v := nI 3) (by rfl) dX8_init_26 ?_
  refine nd_ldcS hC (i := 3) (r := ("NapkinDeeds$Reader", 17, "top", [116, 111, 112])) rfl rfl dX8_init_27 ?_
  refine nd_astS (i := 3) (j := 3) (n := 8) hC rfl l_at_last (by omega) (by omega) dX8_init_29 ?_
  rw [l_set_last]
  refine nd_dup hC (by rfl) dX8_init_30 ?_
  refine nd_iconst hC (v := nI 4) (by rfl) dX8_init_31 ?_
  refine nd_ldcS hC (i := 4) (r := ("NapkinDeeds$Reader", 19, "under", [117, 110, 100, 101, 114])) rfl rfl dX8_init_32 ?_
  refine nd_astS (i := 4) (j := 4) (n := 8) hC rfl l_at_last (by omega) (by omega) dX8_init_34 ?_
  rw [l_set_last]
  refine nd_dup hC (by rfl) dX8_init_35 ?_
  refine nd_iconst hC (v := nI 5) (by rfl) dX8_init_36 ?_
  refine nd_ldcS hC (i := 5) (r := ("NapkinDeeds$Reader", 21, "hidden", [104, 105, 100, 100, 101, 110])) rfl rfl dX8_init_37 ?_
  refine nd_astS (i := 5) (j := 5) (n := 8) hC rfl l_at_last (by omega) (by omega) dX8_init_39 ?_
  rw [l_set_last]
  refine nd_dup hC (by rfl) dX8_init_40 ?_
  refine nd_bipush hC (v := nI 6) (by rfl) dX8_init_41 ?_
  refine nd_ldcS hC (i := 6) (r := ("NapkinDeeds$Reader", 23, "guest", [103, 117, 101, 115, 116])) rfl rfl dX8_init_43 ?_
  refine nd_astS (i := 6) (j := 6) (n := 8) hC rfl l_at_last (by omega) (by omega) dX8_init_45 ?_
  rw [l_set_last]
  refine nd_dup hC (by rfl) dX8_init_46 ?_
  refine nd_bipush hC (v := nI 7) (by rfl) dX8_init_47 ?_
  refine nd_ldcS hC (i := 7) (r := ("NapkinDeeds$Reader", 25, "want", [119, 97, 110, 116])) rfl rfl dX8_init_49 ?_
  refine nd_astS (i := 7) (j := 7) (n := 8) hC rfl l_at_last (by omega) (by omega) dX8_init_51 ?_
  rw [l_set_last]
  generalize hwf : va_up _ 7 (nd_f 7) = wf
  have hw8 : ∀ k, k < 8 → wf k = nd_f k := by
    intro k hk
    rw [← hwf]
    match k, hk with
    | 0, _ => rfl
    | 1, _ => rfl
    | 2, _ => rfl
    | 3, _ => rfl
    | 4, _ => rfl
    | 5, _ => rfl
    | 6, _ => rfl
    | 7, _ => rfl
  have hb0 : (h ++ [(.inl (9, 8, .inr (.inr wf)) : nd_C)])[r]? = some (.inr (nX8, [.null, .null, .int 0, .null, .int 0, .int 0, .int 0, .int 0, .int 0, .int 0])) := (List.getElem?_append_left (by omega)).trans hb
  refine nd_putF (ci := nX8) hC in_X8 rfl hb0 0 (by decide) tyX8 tyX8_ok (by decide +kernel) q1624 (fun _ z => z) rfl rfl rfl rfl rfl (by show 0 < 10; decide) dX8_init_52 ?_
  generalize e1 : (h ++ [(.inl (9, 8, .inr (.inr wf)) : nd_C)]).set r _ = h1
  have l1 : h1.length = r + 2 := by rw [← e1, List.length_set, List.length_append, hlen]; rfl
  have b1 : h1[r]? = some (.inr (nX8, [.ref h.length, .null, .int 0, .null, .int 0, .int 0, .int 0, .int 0, .int 0, .int 0])) := by rw [← e1]; exact List.getElem?_set_self (by rw [List.length_append]; omega)
  have w1 : h1[r + 1]? = some (.inl (9, 8, .inr (.inr wf))) := by rw [← e1, List.getElem?_set_ne (by omega), ← hlen]; exact l_at_last
  have g1 : ∀ a, a < r → h1[a]? = h[a]? := fun a ha => by rw [← e1, List.getElem?_set_ne (by omega)]; exact List.getElem?_append_left (by omega)
  refine nd_aload_n hC dX8_init_55 rfl rfl ?_
  refine nd_new (ci := nX3) hC [.null, .null, .null, .int 0, .null, .null, .null] in_X3 rfl tyX3 tyX3_ok q1559 q234 q151 rfl rfl (by omega) (by omega) dX8_init_56 ?_
  refine nd_dup hC (by rfl) dX8_init_59 ?_
  refine nd_callIN (mm2 := mX3_init) (As := []) (mc2 := 3) (ms2 := 9) (d2 := d - 1) hC rfl rfl q237 q151 q1560 q236 rfl lmX3_init (Nat.le_of_ble_eq_true rfl) (by omega) rfl (by exact Nat.le_of_ble_eq_true rfl) (by omega) (by omega) dX8_init_60 rfl ((ni_X3 hg (by omega) l_at_last (fun h2 gg b2 c2 => ?_)))
  have lA : (h1 ++ [(.inr (nX3, [.null, .null, .null, .int 0, .null, .null, .null]) : nd_C)]).length = r + 3 := by rw [List.length_append, l1]; rfl
  rw [lA] at b2 c2
  rw [l1] at b2
  have l2 : h2.length = r + 6 := by rw [gg.1, lA]
  have f2 : ∀ a, a < r + 2 → h2[a]? = h1[a]? := fun a ha => (gg.2 a (by omega) (by omega)).trans (List.getElem?_append_left (by omega))
  have b3 := (f2 r (by omega)).trans b1
  rw [l1]
  refine nd_putF (ci := nX8) hC in_X8 rfl b3 3 (by decide) tyX8 tyX8_ok (by decide +kernel) q1627 (fun _ z => z) rfl rfl rfl rfl rfl (by show 3 < 10; decide) dX8_init_63 ?_
  have b4 := List.getElem?_set_self (a := (.inr (nX8, [.ref h.length, .null, .int 0, .ref (r + 2), .int 0, .int 0, .int 0, .int 0, .int 0, .int 0]) : nd_C)) (nd_get_lt b3)
  refine nd_aload_n hC dX8_init_66 rfl rfl ?_
  refine nd_aload_n hC dX8_init_67 rfl rfl ?_
  refine nd_putF (ci := nX8) hC in_X8 rfl b4 1 (by decide) tyX8 tyX8_ok (by decide +kernel) q1625 (fun _ z => z) rfl rfl rfl rfl rfl (by show 1 < 10; decide) dX8_init_68 ?_
  rw [List.set_set]
  have b5 := List.getElem?_set_self (a := (.inr (nX8, [.ref h.length, .ref 92, .int 0, .ref (r + 2), .int 0, .int 0, .int 0, .int 0, .int 0, .int 0]) : nd_C)) (nd_get_lt b3)
  refine nd_aload_n hC dX8_init_71 rfl rfl ?_
  refine nd_iload_n hC dX8_init_72 rfl ?_
  refine nd_putF (ci := nX8) hC in_X8 rfl b5 2 (by decide) tyX8 tyX8_ok (by decide +kernel) q1626 (fun _ z => z) rfl rfl rfl rfl rfl (by show 2 < 10; decide) dX8_init_73 ?_
  rw [List.set_set]
  have b6 := List.getElem?_set_self (a := (.inr (nX8, [.ref h.length, .ref 92, .int (nI T.length), .ref (r + 2), .int 0, .int 0, .int 0, .int 0, .int 0, .int 0]) : nd_C)) (nd_get_lt b3)
  show nd_W _ _ _ _ _ _ _ _ _ _ (h2.set r (.inr (nX8, [.ref h.length, .ref 92, .int (nI T.length), .ref (r + 2), .int 0, .int 0, .int 0, .int 0, .int 0, .int 0]))) _ _
  generalize e3 : h2.set r (.inr (nX8, [.ref h.length, .ref 92, .int (nI T.length), .ref (r + 2), .int 0, .int 0, .int 0, .int 0, .int 0, .int 0])) = h3 at b6 ⊢
  have l3 : h3.length = r + 6 := by rw [← e3, List.length_set, l2]
  have f3 : ∀ a, a ≠ r → h3[a]? = h2[a]? := fun a ha => by rw [← e3]; exact List.getElem?_set_ne (Ne.symm ha)
  have hT3 : rd_T h3 T := by
    obtain ⟨tf, t1, t2⟩ := hT
    exact ⟨tf, (f3 92 (by omega)).trans ((f2 92 (by omega)).trans ((g1 92 (by omega)).trans t1)), t2⟩
  rw [hlen] at b6
  refine nd_aload_n hC dX8_init_76 rfl rfl ?_
  refine nd_callV (mm2 := mX8_next) (As := []) (mc2 := 0) (ms2 := 0) (d2 := d - 1) hC rfl lkX8_48 ⟨rfl, lmX8_next⟩ (b6) rfl (Nat.le_of_ble_eq_true rfl) (by omega) rfl (by exact Nat.le_of_ble_eq_true rfl) (by omega) (by omega) dX8_init_77 rfl ((rd_next (wr := r + 1) (md := r + 2) (dp := 0) (m := 0) hg (by omega) hT3 (by omega) (q := 0) (Nat.zero_le _) b6 (fun c R => ?_)))
  have f4 : ∀ a, a ≠ r → (h3.set r c)[a]? = h2[a]? := fun a ha => (List.getElem?_set_ne (Ne.symm ha)).trans (f3 a ha)
  have ll : ∀ k, k < 3 → rd_l (fun _ => 0) (h3.set r c) (r + 3 + k) [] := fun k hk => Or.inl ⟨rfl, nI 0, (f4 _ (by omega)).trans (c2 k hk)⟩
  refine nd_return hC rfl (by omega) (by omega) dX8_init_80 ((hk _ ⟨hT3.set (by omega), ⟨wf, (f4 _ (by omega)).trans ((f2 _ (by omega)).trans w1), hw8⟩, R, ⟨.null, .null, .null, (f4 _ (by omega)).trans b2, ll 0 (by omega), ll 1 (by omega), ll 2 (by omega), Or.inl ⟨rfl, rfl⟩, Or.inl ⟨rfl, rfl⟩, Or.inl ⟨rfl, rfl⟩⟩, fun a ha => absurd rfl ha, by omega, h123⟩ ⟨by rw [List.length_set, l3, hlen]; omega, fun a ha => (f4 a (by omega)).trans ((f2 a (by omega)).trans (g1 a ha))⟩))
end RD992

