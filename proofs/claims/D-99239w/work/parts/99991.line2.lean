set_option maxRecDepth 100000
/-! ===== the class's reader: a line, all ===== -/
theorem tx_lcell_6 {T : List Nat} {n p : Nat} (h : n = 6) : tx_lcell T n p = .inr (4, tx_b T p) := by subst h; rfl
theorem tx_lcell_n {T : List Nat} {n p : Nat} (h : n ≠ 6) : tx_lcell T n p = tx_bind (tx_bind (tx_num T 99 (tx_h T p)) (tx_mw T tx_back)) (tx_num T 99) := by
  unfold tx_lcell tx_full
  rw [show (n == 6) = false from beq_eq_false_iff_ne.2 h]
  show tx_bind (tx_bind (tx_bind (.inl ([], tx_h T p)) (tx_num T 99)) (tx_mw T tx_back)) (tx_num T 99) = _
  rw [tx_bind_0]
theorem tx_lguest_4 {T : List Nat} {n p : Nat} (h : n = 4) : tx_lguest T n p = .inr (4, tx_b T p) := by subst h; rfl
theorem tx_lguest_n {T : List Nat} {n p : Nat} (h : n ≠ 4) : tx_lguest T n p = tx_num T 99 (tx_h T p) := by
  unfold tx_lguest tx_full
  rw [show (n == 4) = false from beq_eq_false_iff_ne.2 h]
  show tx_bind (.inl ([], tx_h T p)) (tx_num T 99) = _
  rw [tx_bind_0]
theorem tx_llaw_1 {T : List Nat} {f : Nat → tx_R} {p : Nat} (h : tx_k T (tx_h T p) = 58) : tx_llaw T f p = f (tx_h T (tx_h T p)) := by
  unfold tx_llaw tx_on
  rw [tx_bind_0]
  unfold tx_must
  rw [if_pos h, tx_bind_0]
theorem tx_llaw_0 {T : List Nat} {f : Nat → tx_R} {p : Nat} (h : tx_k T (tx_h T p) ≠ 58) : tx_llaw T f p = .inr (tx_e T (tx_h T p) 2) := by
  unfold tx_llaw tx_on
  rw [tx_bind_0]
  unfold tx_must
  rw [if_neg h]
  rfl
theorem rd_I.md {o : Nat → Nat} {h : nd_H} {r p m : Nat} {T : List Nat} {N N2 : tx_N} {wv kv hv : Value} (H : rd_I o h r T p m N) (e1 : N2.1 = N.1) (e2 : N2.2.1 = N.2.1) (e3 : N2.2.2.1 = N.2.2.1) (s1 : cn_su o h wv N2.2.2.2.2.1) (s2 : cn_tr o h hv N2.2.2.2.2.2.1) (s3 : cn_su o h kv N2.2.2.2.2.2.2) : rd_I o (h.set (r + 2) (.inr (nX3, [.ref (r + 3), .ref (r + 4), .ref (r + 5), .int (nI N2.2.2.2.1), wv, kv, hv]))) r T p m N2 := by
  have hl := H.hl
  obtain ⟨a1, a2, a3, ⟨wv0, kv0, hv0, b1, b2, b3, b4, b5, b6, b7⟩, a5, a6, a7⟩ := H
  obtain ⟨tf, t1, t2⟩ := a1
  have g : ∀ b, b ≠ r + 2 → (h.set (r + 2) (.inr (nX3, [.ref (r + 3), .ref (r + 4), .ref (r + 5), .int (nI N2.2.2.2.1), wv, kv, hv])))[b]? = h[b]? := fun b hb => List.getElem?_set_ne (by omega)
  have kf : fk o h (h.set (r + 2) (.inr (nX3, [.ref (r + 3), .ref (r + 4), .ref (r + 5), .int (nI N2.2.2.2.1), wv, kv, hv]))) := fun x hx => g x (by have := a5 x (by omega); omega)
  have ll : ∀ a ws, rd_l o h a ws → r + 2 < a → rd_l o (h.set (r + 2) (.inr (nX3, [.ref (r + 3), .ref (r + 4), .ref (r + 5), .int (nI N2.2.2.2.1), wv, kv, hv]))) a ws := fun a ws z ha => z.go (g a (by omega)) (fun b hb => g b (by have := a5 b (by omega); omega)) (fun _ _ => rfl)
  refine ⟨⟨tf, (g 92 (by omega)).trans t1, t2⟩, (by obtain ⟨wf, y1, y2⟩ := a2; exact ⟨wf, (g _ (by omega)).trans y1, y2⟩), a3.f (g _ (by omega)), ⟨wv, kv, hv, List.getElem?_set_self (by omega), ?_, ?_, ?_, s1.k kf, s2.k kf, s3.k kf⟩, fun a ha => by rw [List.length_set]; exact a5 a ha, a6, a7⟩
  · rw [e1]; exact ll _ _ b2 (by omega)
  · rw [e2]; exact ll _ _ b3 (by omega)
  · rw [e3]; exact ll _ _ b4 (by omega)
section RD991
variable {g : nd_G} {mm : nd_Mt} {d mc ms : Nat} {K : nd_K} {X : nd_X} {h : nd_H} {o : Nat → Nat} {T : List Nat} {r p m : Nat} {N : tx_N}
theorem rd_lnC (hg : nd_OK g) (hd : 12 ≤ d) (hC : nd_Cx g mX8_line X) (HI : rd_I o h r T p m N) (hp : p ≤ T.length) (hN : N.1.length ≤ 6) (hN2 : N.2.1.length = N.1.length) (hz : tx_w T p tx_cell = true) (hmc : rc T (tx_lcell T N.1.length p) p = mc) (hms : rs T (tx_lcell T N.1.length p) p = ms) (hk : ∀ x, tx_lcell T N.1.length p = .inl x → ∀ h2 o2 m2, rd_I o2 h2 r T x.2 m2 (tx_put N 0 x.1) → rd_g r h h2 → K (.inl none) h2) (he : ∀ e, tx_lcell T N.1.length p = .inr e → ∀ h2 k, rd_g r h h2 → rd_B h2 k e → K (.inr (eBad, k)) h2) : nd_W g mX8_line d mc ms K X 9 [some (.ref r)] [] h 0 0 := by
  have h92 : r ≠ 92 := by have := HI.2.2.2.2.2.2; omega
  have hm8 := HI.2.2.2.2.2.1
  have hw4 : p + 4 ≤ tx_h T p := tx_w_len hz
  have hle := tx_h_le T hp
  obtain ⟨c1_0, c2_0, c3_0, ⟨wv0, kv0, hv0, d1_0, d2_0, d3_0, d4_0, -⟩, -⟩ := id HI
  obtain ⟨nu0, hb0, -⟩ := id c3_0
  obtain ⟨mf0, ef0, hf0⟩ := d2_0.sz
  obtain ⟨mb0, eb0, hk0⟩ := d3_0.sz
  obtain ⟨mg0, eg0, hg0⟩ := d4_0.sz
  have hl0 := HI.hl
  refine nd_aload_n hC dX8_line_9 rfl rfl ?_
  refine nd_aload_n hC dX8_line_10 rfl rfl ?_
  refine nd_get (ci := nX8) hC in_X8 rfl hb0 3 (by decide) q1627 (fun _ z => z) rfl dX8_line_11 ?_
  refine nd_callV (mm2 := mX3_cells) (As := []) (mc2 := 0) (ms2 := 0) (d2 := d - 1) hC rfl lkX8_198 ⟨rfl, lmX3_cells⟩ (d1_0) rfl (Nat.le_of_ble_eq_true rfl) (by omega) rfl (by exact Nat.le_of_ble_eq_true rfl) (by omega) (by omega) dX8_line_14 rfl ((cn_cells (o := fun _ => 1) hg (by omega) ⟨r + 3, _, _, _, _, _, _, _, _, rfl, rfl, d1_0, hf0⟩ ?_))
  refine nd_bipush hC (v := nI 6) (by rfl) dX8_line_17 ?_
  first | with_reducible refine nd_icmp_neN hC (tgt := 26) (by omega) (by omega) dX8_line_19 (by decide) (fun hq => ?_) (fun hq => ?_) | refine nd_icmp_ne hC (tgt := 26) dX8_line_19 (by decide) (fun hq => ?_) (fun hq => ?_)
  rotate_left
  · have ef := tx_lcell_6 (T := T) (n := N.1.length) (p := p) (by omega)
    rw [ef] at he hmc hms
    have hmc : 2 * (T.length - p) + 2 = mc := hmc
    have hms : 4 * (T.length - p) + 9 = ms := hms
    refine nd_iconst hC (v := nI 1) (by rfl) dX8_line_22 ?_
    refine nd_goto hC (tgt := 27) dX8_line_23 (by decide) ?_
    refine nd_v_eq (y := .int (nd_b true)) (by rfl) ?_
    refine nd_callV (mm2 := mX8_full) (As := [_]) (mc2 := 1) (ms2 := 8) (d2 := d - 1) hC rfl lkX8_112 ⟨rfl, lmX8_full⟩ (hb0) rfl (Nat.le_of_ble_eq_true rfl) (by omega) rfl (by exact Nat.le_of_ble_eq_true rfl) (by omega) (by omega) dX8_line_27 rfl ((rd_full0 hg (by omega) c3_0 ?_))
    intro h2 k f2 b2
    exact nd_out hC rfl (by omega) (by omega) (he _ rfl h2 k (f2.g (by omega)) b2)
  have ef := tx_lcell_n (T := T) (n := N.1.length) (p := p) (by omega)
  rw [ef] at hk he hmc hms
  refine nd_iconst hC (v := nI 0) (by rfl) dX8_line_26 ?_
  refine nd_v_eq (y := .int (nd_b false)) (by rfl) ?_
  refine nd_callV (mm2 := mX8_full) (As := [_]) (mc2 := 0) (ms2 := 0) (d2 := d - 1) hC rfl lkX8_112 ⟨rfl, lmX8_full⟩ (hb0) rfl (Nat.le_of_ble_eq_true rfl) (by omega) rfl (by exact Nat.le_of_ble_eq_true rfl) (by omega) (by omega) dX8_line_27 rfl ((rd_full1 hg (by omega) c1_0 h92 hp c3_0 (fun h1 R1 f1 e1 => ?_)))
  have I1 := HI.f R1 f1 hm8
  have g1 : rd_g r h h1 := f1.g (by omega)
  obtain ⟨c1_1, c2_1, c3_1, ⟨wv1, kv1, hv1, d1_1, d2_1, d3_1, d4_1, -⟩, -⟩ := id I1
  obtain ⟨nu1, hb1, -⟩ := id c3_1
  obtain ⟨mf1, ef1, hf1⟩ := d2_1.sz
  obtain ⟨mb1, eb1, hk1⟩ := d3_1.sz
  obtain ⟨mg1, eg1, hg1⟩ := d4_1.sz
  have hl1 := I1.hl
  refine nd_aload_n hC dX8_line_30 rfl rfl ?_
  refine nd_get (ci := nX8) hC in_X8 rfl hb1 3 (by decide) q1627 (fun _ z => z) rfl dX8_line_31 ?_
  refine nd_getN (ci := nX3) hC in_X3 rfl d1_1 0 (by decide) q270 (fun _ z => z) rfl dX8_line_34 ?_
  refine nd_aload_n hC dX8_line_37 rfl rfl ?_
  refine nd_iconst hC (v := nI 0) (by rfl) dX8_line_38 ?_
  refine nd_bipush hC (v := nI 99) (by rfl) dX8_line_39 ?_
  rcases tx_num_cases T 99 (tx_h T p) with ⟨z1, z2, z3⟩ | ⟨e, z⟩
  rotate_left
  · rw [z] at he hmc hms
    have hmc : 2 * (T.length - p) + 2 = mc := hmc
    have hms : 4 * (T.length - p) + 9 = ms := hms
    refine nd_callV (mm2 := mX8_number) (As := [_, _]) (mc2 := 1) (ms2 := 8) (d2 := d - 1) hC rfl lkX8_118 ⟨rfl, lmX8_number⟩ (hb1) rfl (Nat.le_of_ble_eq_true rfl) (by omega) rfl (by exact Nat.le_of_ble_eq_true rfl) (by omega) (by omega) dX8_line_41 rfl ((rd_num0 hg (by omega) c1_1 h92 hle R1 (by omega) z ?_))
    intro h2 k f2 b2
    exact nd_out hC rfl (by omega) (by omega) (he _ rfl h2 k (g1.trans (f2.g (by omega))) b2)
  have hh2 := tx_on_h (T := T) (p := tx_h T p) (by omega) hle
  generalize eq2 : tx_h T (tx_h T p) = q2
  rw [eq2] at hh2 z3
  rw [z3] at hk he hmc hms
  have hg0 := rc_ge (T := T) (p := p) (q := q2) (s1 := [tx_v T (tx_h T p)]) (f := fun q => tx_bind (tx_mw T tx_back q) (tx_num T 99)) (by omega) hh2.2 (fun q hq => tx_gd_bind (tx_G_mw T tx_back q hq) (tx_G_num T 99))
  rw [← tx_bind_a, hmc, hms] at hg0
  refine nd_callV (mm2 := mX8_number) (As := [_, _]) (mc2 := 0) (ms2 := 0) (d2 := d - 1) hC rfl lkX8_118 ⟨rfl, lmX8_number⟩ (hb1) rfl (Nat.le_of_ble_eq_true rfl) (by omega) rfl (by exact Nat.le_of_ble_eq_true rfl) (by omega) (by omega) dX8_line_41 rfl ((rd_num1 hg (by omega) c1_1 h92 hle R1 (by omega) z1 z2 (fun h2 R2 f2 e2 => ?_)))
  rw [eq2] at R2
  refine nd_callS (mm2 := mJ14_valueOf) (As := [_]) (mc2 := 0) (ms2 := 0) (d2 := d - 1) hC rfl lkX8_205 lmJ14_valueOf (Nat.le_of_ble_eq_true rfl) (by omega) rfl (by exact Nat.le_of_ble_eq_true rfl) (by omega) (by omega) dX8_line_44 rfl ((cb_of hg (by omega) ?_))
  have I2 := I1.f R2 f2 hm8
  have g2 : rd_g r h h2 := g1.trans (f2.g (by omega))
  obtain ⟨c1_2, c2_2, c3_2, ⟨wv2, kv2, hv2, d1_2, d2_2, d3_2, d4_2, -⟩, -⟩ := id I2
  obtain ⟨nu2, hb2, -⟩ := id c3_2
  obtain ⟨mf2, ef2, hf2⟩ := d2_2.sz
  obtain ⟨mb2, eb2, hk2⟩ := d3_2.sz
  obtain ⟨mg2, eg2, hg2⟩ := d4_2.sz
  have hl2 := I2.hl
  refine nd_callV (mm2 := mJ2_add) (As := [_]) (mc2 := 1) (ms2 := 10) (d2 := d - 1) hC rfl lkX8_211 ⟨rfl, lmJ2_add⟩ (hf2) rfl (Nat.le_of_ble_eq_true rfl) (by omega) rfl (by exact Nat.le_of_ble_eq_true rfl) (by omega) (by omega) dX8_line_47 rfl ((rd_addF hg (by omega) I2 (by omega) (by omega) (fun h3 o3 I3 g3 => ?_)))
  have g4 : rd_g r h h3 := g2.trans g3
  obtain ⟨c1_3, c2_3, c3_3, ⟨wv3, kv3, hv3, d1_3, d2_3, d3_3, d4_3, -⟩, -⟩ := id I3
  obtain ⟨nu3, hb3, -⟩ := id c3_3
  obtain ⟨mf3, ef3, hf3⟩ := d2_3.sz
  obtain ⟨mb3, eb3, hk3⟩ := d3_3.sz
  obtain ⟨mg3, eg3, hg3⟩ := d4_3.sz
  have hl3 := I3.hl
  refine nd_pop hC (by rfl) dX8_line_50 ?_
  refine nd_aload_n hC dX8_line_51 rfl rfl ?_
  refine nd_ldcS hC (i := 10) (r := ("NapkinDeeds$Reader", 217, "back", [98, 97, 99, 107])) rfl rfl dX8_line_52 ?_
  cases zb : tx_w T q2 tx_back with
  | false =>
    have e9 : tx_bind (tx_bind (.inl ([tx_v T (tx_h T p)], q2)) (tx_mw T tx_back)) (tx_num T 99) = .inr (tx_e T q2 2) := by
      have : tx_mw T tx_back q2 = .inr (tx_e T q2 2) := by unfold tx_mw; rw [if_neg (by rw [zb]; decide)]
      show tx_bind (match tx_mw T tx_back q2 with | .inl y => (.inl ([tx_v T (tx_h T p)] ++ y.1, y.2) : tx_R) | .inr e => .inr e) (tx_num T 99) = _
      rw [this]
      rfl
    rw [e9] at he hmc hms
    have hmc : 2 * (T.length - p) + 2 = mc := hmc
    have hms : 4 * (T.length - p) + 9 = ms := hms
    refine nd_callV (mm2 := mX8_must) (As := [_]) (mc2 := 1) (ms2 := 8) (d2 := d - 1) hC rfl lkX8_219 ⟨rfl, lmX8_must⟩ (hb3) rfl (Nat.le_of_ble_eq_true rfl) (by omega) rfl (by exact Nat.le_of_ble_eq_true rfl) (by omega) (by omega) dX8_line_54 rfl ((rd_mustS0 (i := 10) hg (by omega) c1_3 h92 hh2.2 c3_3 rfl zb ?_))
    intro h9 k f9 b9
    exact nd_out hC rfl (by omega) (by omega) (he _ rfl h9 k (g4.trans (f9.g (by omega))) b9)
  | true =>
    have hw5 : q2 + 4 ≤ tx_h T q2 := tx_w_len zb
    have hle3 := tx_h_le T hh2.2
    have e9 : tx_bind (tx_bind (.inl ([tx_v T (tx_h T p)], q2)) (tx_mw T tx_back)) (tx_num T 99) = tx_bind (.inl ([tx_v T (tx_h T p)], tx_h T q2)) (tx_num T 99) := by
      have : tx_mw T tx_back q2 = .inl ([], tx_h T q2) := by unfold tx_mw; rw [if_pos zb]
      show tx_bind (match tx_mw T tx_back q2 with | .inl y => (.inl ([tx_v T (tx_h T p)] ++ y.1, y.2) : tx_R) | .inr e => .inr e) (tx_num T 99) = _
      rw [this]
      rfl
    rw [e9] at hk he hmc hms
    refine nd_callV (mm2 := mX8_must) (As := [_]) (mc2 := 0) (ms2 := 0) (d2 := d - 1) hC rfl lkX8_219 ⟨rfl, lmX8_must⟩ (hb3) rfl (Nat.le_of_ble_eq_true rfl) (by omega) rfl (by exact Nat.le_of_ble_eq_true rfl) (by omega) (by omega) dX8_line_54 rfl ((rd_mustS1 (i := 10) hg (by omega) c1_3 h92 hh2.2 c3_3 rfl zb (fun h4 R4 f4 e4 => ?_)))
    have I4 := I3.f R4 f4 hm8
    have g5 : rd_g r h h4 := g4.trans (f4.g (by omega))
    obtain ⟨c1_4, c2_4, c3_4, ⟨wv4, kv4, hv4, d1_4, d2_4, d3_4, d4_4, -⟩, -⟩ := id I4
    obtain ⟨nu4, hb4, -⟩ := id c3_4
    obtain ⟨mf4, ef4, hf4⟩ := d2_4.sz
    obtain ⟨mb4, eb4, hk4⟩ := d3_4.sz
    obtain ⟨mg4, eg4, hg4⟩ := d4_4.sz
    have hl4 := I4.hl
    refine nd_aload_n hC dX8_line_57 rfl rfl ?_
    refine nd_get (ci := nX8) hC in_X8 rfl hb4 3 (by decide) q1627 (fun _ z => z) rfl dX8_line_58 ?_
    refine nd_getN (ci := nX3) hC in_X3 rfl d1_4 1 (by decide) q273 (fun _ z => z) rfl dX8_line_61 ?_
    refine nd_aload_n hC dX8_line_64 rfl rfl ?_
    refine nd_iconst hC (v := nI 0) (by rfl) dX8_line_65 ?_
    refine nd_bipush hC (v := nI 99) (by rfl) dX8_line_66 ?_
    rcases tx_num_cases T 99 (tx_h T q2) with ⟨y1, y2, y3⟩ | ⟨e, z⟩
    rotate_left
    · have e8 : tx_bind (.inl ([tx_v T (tx_h T p)], tx_h T q2)) (tx_num T 99) = .inr e := by
        show (match tx_num T 99 (tx_h T q2) with | .inl y => (.inl ([tx_v T (tx_h T p)] ++ y.1, y.2) : tx_R) | .inr e => .inr e) = _
        rw [z]
      rw [e8] at he hmc hms
      have hmc : 2 * (T.length - p) + 2 = mc := hmc
      have hms : 4 * (T.length - p) + 9 = ms := hms
      refine nd_callV (mm2 := mX8_number) (As := [_, _]) (mc2 := 1) (ms2 := 8) (d2 := d - 1) hC rfl lkX8_118 ⟨rfl, lmX8_number⟩ (hb4) rfl (Nat.le_of_ble_eq_true rfl) (by omega) rfl (by exact Nat.le_of_ble_eq_true rfl) (by omega) (by omega) dX8_line_68 rfl ((rd_num0 hg (by omega) c1_4 h92 hle3 R4 (by omega) z ?_))
      intro h9 k f9 b9
      exact nd_out hC rfl (by omega) (by omega) (he _ rfl h9 k (g5.trans (f9.g (by omega))) b9)
    have hh5 := tx_on_h (T := T) (p := tx_h T q2) (by omega) hle3
    have e8 : tx_bind (.inl ([tx_v T (tx_h T p)], tx_h T q2)) (tx_num T 99) = .inl ([tx_v T (tx_h T p)] ++ [tx_v T (tx_h T q2)], tx_h T (tx_h T q2)) := by
      show (match tx_num T 99 (tx_h T q2) with | .inl y => (.inl ([tx_v T (tx_h T p)] ++ y.1, y.2) : tx_R) | .inr e => .inr e) = _
      rw [y3]
    rw [e8] at hk hmc hms
    have hmc : 2 * (tx_h T (tx_h T q2) - p) = mc := hmc
    have hms : 4 * (tx_h T (tx_h T q2) - p) = ms := hms
    refine nd_callV (mm2 := mX8_number) (As := [_, _]) (mc2 := 0) (ms2 := 0) (d2 := d - 1) hC rfl lkX8_118 ⟨rfl, lmX8_number⟩ (hb4) rfl (Nat.le_of_ble_eq_true rfl) (by omega) rfl (by exact Nat.le_of_ble_eq_true rfl) (by omega) (by omega) dX8_line_68 rfl ((rd_num1 hg (by omega) c1_4 h92 hle3 R4 (by omega) y1 y2 (fun h5 R5 f5 e5 => ?_)))
    refine nd_callS (mm2 := mJ14_valueOf) (As := [_]) (mc2 := 0) (ms2 := 0) (d2 := d - 1) hC rfl lkX8_205 lmJ14_valueOf (Nat.le_of_ble_eq_true rfl) (by omega) rfl (by exact Nat.le_of_ble_eq_true rfl) (by omega) (by omega) dX8_line_71 rfl ((cb_of hg (by omega) ?_))
    have I5 := I4.f R5 f5 hm8
    have g6 : rd_g r h h5 := g5.trans (f5.g (by omega))
    obtain ⟨c1_5, c2_5, c3_5, ⟨wv5, kv5, hv5, d1_5, d2_5, d3_5, d4_5, -⟩, -⟩ := id I5
    obtain ⟨nu5, hb5, -⟩ := id c3_5
    obtain ⟨mf5, ef5, hf5⟩ := d2_5.sz
    obtain ⟨mb5, eb5, hk5⟩ := d3_5.sz
    obtain ⟨mg5, eg5, hg5⟩ := d4_5.sz
    have hl5 := I5.hl
    refine nd_callV (mm2 := mJ2_add) (As := [_]) (mc2 := 1) (ms2 := 10) (d2 := d - 1) hC rfl lkX8_211 ⟨rfl, lmJ2_add⟩ (hk5) rfl (Nat.le_of_ble_eq_true rfl) (by omega) rfl (by exact Nat.le_of_ble_eq_true rfl) (by omega) (by omega) dX8_line_74 rfl ((rd_addB hg (by omega) I5 (by omega) (by show N.2.1.length < 10; omega) (fun h6 o6 I6 g7 => ?_)))
    refine nd_pop hC (by rfl) dX8_line_77 ?_
    refine nd_goto hC (tgt := 229) dX8_line_78 (by decide) ?_
    refine nd_return hC rfl (by omega) (by omega) dX8_line_229 ((hk _ rfl h6 o6 m I6 (g6.trans g7)))
theorem rd_lnG (hg : nd_OK g) (hd : 12 ≤ d) (hC : nd_Cx g mX8_line X) (HI : rd_I o h r T p m N) (hp : p ≤ T.length) (hN : N.2.2.1.length ≤ 4) (hz : tx_w T p tx_guest = true) (hmc : rc T (tx_lguest T N.2.2.1.length p) p = mc) (hms : rs T (tx_lguest T N.2.2.1.length p) p = ms) (hk : ∀ x, tx_lguest T N.2.2.1.length p = .inl x → ∀ h2 o2 m2, rd_I o2 h2 r T x.2 m2 (tx_put N 1 x.1) → rd_g r h h2 → K (.inl none) h2) (he : ∀ e, tx_lguest T N.2.2.1.length p = .inr e → ∀ h2 k, rd_g r h h2 → rd_B h2 k e → K (.inr (eBad, k)) h2) : nd_W g mX8_line d mc ms K X 90 [some (.ref r)] [] h 0 0 := by
  have h92 : r ≠ 92 := by have := HI.2.2.2.2.2.2; omega
  have hm8 := HI.2.2.2.2.2.1
  have hw4 : p + 5 ≤ tx_h T p := tx_w_len hz
  have hle := tx_h_le T hp
  obtain ⟨c1_0, c2_0, c3_0, ⟨wv0, kv0, hv0, d1_0, d2_0, d3_0, d4_0, -⟩, -⟩ := id HI
  obtain ⟨nu0, hb0, -⟩ := id c3_0
  obtain ⟨mf0, ef0, hf0⟩ := d2_0.sz
  obtain ⟨mb0, eb0, hk0⟩ := d3_0.sz
  obtain ⟨mg0, eg0, hg0⟩ := d4_0.sz
  have hl0 := HI.hl
  refine nd_aload_n hC dX8_line_90 rfl rfl ?_
  refine nd_aload_n hC dX8_line_91 rfl rfl ?_
  refine nd_get (ci := nX8) hC in_X8 rfl hb0 3 (by decide) q1627 (fun _ z => z) rfl dX8_line_92 ?_
  refine nd_getN (ci := nX3) hC in_X3 rfl d1_0 2 (by decide) q276 (fun _ z => z) rfl dX8_line_95 ?_
  refine nd_callV (mm2 := mJ2_size) (As := []) (mc2 := 0) (ms2 := 0) (d2 := d - 1) hC rfl lkX8_228 ⟨rfl, lmJ2_size⟩ (hg0) rfl (Nat.le_of_ble_eq_true rfl) (by omega) rfl (by exact Nat.le_of_ble_eq_true rfl) (by omega) (by omega) dX8_line_98 rfl ((ca_size hg hg0 ?_))
  refine nd_iconst hC (v := nI 4) (by rfl) dX8_line_101 ?_
  first | with_reducible refine nd_icmp_neN hC (tgt := 109) (by omega) (by omega) dX8_line_102 (by decide) (fun hq => ?_) (fun hq => ?_) | refine nd_icmp_ne hC (tgt := 109) dX8_line_102 (by decide) (fun hq => ?_) (fun hq => ?_)
  rotate_left
  · have ef := tx_lguest_4 (T := T) (n := N.2.2.1.length) (p := p) (by omega)
    rw [ef] at he hmc hms
    have hmc : 2 * (T.length - p) + 2 = mc := hmc
    have hms : 4 * (T.length - p) + 9 = ms := hms
    refine nd_iconst hC (v := nI 1) (by rfl) dX8_line_105 ?_
    refine nd_goto hC (tgt := 110) dX8_line_106 (by decide) ?_
    refine nd_v_eq (y := .int (nd_b true)) (by rfl) ?_
    refine nd_callV (mm2 := mX8_full) (As := [_]) (mc2 := 1) (ms2 := 8) (d2 := d - 1) hC rfl lkX8_112 ⟨rfl, lmX8_full⟩ (hb0) rfl (Nat.le_of_ble_eq_true rfl) (by omega) rfl (by exact Nat.le_of_ble_eq_true rfl) (by omega) (by omega) dX8_line_110 rfl ((rd_full0 hg (by omega) c3_0 ?_))
    intro h2 k f2 b2
    exact nd_out hC rfl (by omega) (by omega) (he _ rfl h2 k (f2.g (by omega)) b2)
  have ef := tx_lguest_n (T := T) (n := N.2.2.1.length) (p := p) (by omega)
  rw [ef] at hk he hmc hms
  refine nd_iconst hC (v := nI 0) (by rfl) dX8_line_109 ?_
  refine nd_v_eq (y := .int (nd_b false)) (by rfl) ?_
  refine nd_callV (mm2 := mX8_full) (As := [_]) (mc2 := 0) (ms2 := 0) (d2 := d - 1) hC rfl lkX8_112 ⟨rfl, lmX8_full⟩ (hb0) rfl (Nat.le_of_ble_eq_true rfl) (by omega) rfl (by exact Nat.le_of_ble_eq_true rfl) (by omega) (by omega) dX8_line_110 rfl ((rd_full1 hg (by omega) c1_0 h92 hp c3_0 (fun h1 R1 f1 e1 => ?_)))
  have I1 := HI.f R1 f1 hm8
  have g1 : rd_g r h h1 := f1.g (by omega)
  obtain ⟨c1_1, c2_1, c3_1, ⟨wv1, kv1, hv1, d1_1, d2_1, d3_1, d4_1, -⟩, -⟩ := id I1
  obtain ⟨nu1, hb1, -⟩ := id c3_1
  obtain ⟨mf1, ef1, hf1⟩ := d2_1.sz
  obtain ⟨mb1, eb1, hk1⟩ := d3_1.sz
  obtain ⟨mg1, eg1, hg1⟩ := d4_1.sz
  have hl1 := I1.hl
  refine nd_aload_n hC dX8_line_113 rfl rfl ?_
  refine nd_get (ci := nX8) hC in_X8 rfl hb1 3 (by decide) q1627 (fun _ z => z) rfl dX8_line_114 ?_
  refine nd_getN (ci := nX3) hC in_X3 rfl d1_1 2 (by decide) q276 (fun _ z => z) rfl dX8_line_117 ?_
  refine nd_aload_n hC dX8_line_120 rfl rfl ?_
  refine nd_iconst hC (v := nI 0) (by rfl) dX8_line_121 ?_
  refine nd_bipush hC (v := nI 99) (by rfl) dX8_line_122 ?_
  rcases tx_num_cases T 99 (tx_h T p) with ⟨z1, z2, z3⟩ | ⟨e, z⟩
  rotate_left
  · rw [z] at he hmc hms
    have hmc : 2 * (T.length - p) + 2 = mc := hmc
    have hms : 4 * (T.length - p) + 9 = ms := hms
    refine nd_callV (mm2 := mX8_number) (As := [_, _]) (mc2 := 1) (ms2 := 8) (d2 := d - 1) hC rfl lkX8_118 ⟨rfl, lmX8_number⟩ (hb1) rfl (Nat.le_of_ble_eq_true rfl) (by omega) rfl (by exact Nat.le_of_ble_eq_true rfl) (by omega) (by omega) dX8_line_124 rfl ((rd_num0 hg (by omega) c1_1 h92 hle R1 (by omega) z ?_))
    intro h2 k f2 b2
    exact nd_out hC rfl (by omega) (by omega) (he _ rfl h2 k (g1.trans (f2.g (by omega))) b2)
  have hh2 := tx_on_h (T := T) (p := tx_h T p) (by omega) hle
  rw [z3] at hk hmc hms
  have hmc : 2 * (tx_h T (tx_h T p) - p) = mc := hmc
  have hms : 4 * (tx_h T (tx_h T p) - p) = ms := hms
  refine nd_callV (mm2 := mX8_number) (As := [_, _]) (mc2 := 0) (ms2 := 0) (d2 := d - 1) hC rfl lkX8_118 ⟨rfl, lmX8_number⟩ (hb1) rfl (Nat.le_of_ble_eq_true rfl) (by omega) rfl (by exact Nat.le_of_ble_eq_true rfl) (by omega) (by omega) dX8_line_124 rfl ((rd_num1 hg (by omega) c1_1 h92 hle R1 (by omega) z1 z2 (fun h2 R2 f2 e2 => ?_)))
  refine nd_callS (mm2 := mJ14_valueOf) (As := [_]) (mc2 := 0) (ms2 := 0) (d2 := d - 1) hC rfl lkX8_205 lmJ14_valueOf (Nat.le_of_ble_eq_true rfl) (by omega) rfl (by exact Nat.le_of_ble_eq_true rfl) (by omega) (by omega) dX8_line_127 rfl ((cb_of hg (by omega) ?_))
  have I2 := I1.f R2 f2 hm8
  have g2 : rd_g r h h2 := g1.trans (f2.g (by omega))
  obtain ⟨c1_2, c2_2, c3_2, ⟨wv2, kv2, hv2, d1_2, d2_2, d3_2, d4_2, -⟩, -⟩ := id I2
  obtain ⟨nu2, hb2, -⟩ := id c3_2
  obtain ⟨mf2, ef2, hf2⟩ := d2_2.sz
  obtain ⟨mb2, eb2, hk2⟩ := d3_2.sz
  obtain ⟨mg2, eg2, hg2⟩ := d4_2.sz
  have hl2 := I2.hl
  refine nd_callV (mm2 := mJ2_add) (As := [_]) (mc2 := 1) (ms2 := 10) (d2 := d - 1) hC rfl lkX8_211 ⟨rfl, lmJ2_add⟩ (hg2) rfl (Nat.le_of_ble_eq_true rfl) (by omega) rfl (by exact Nat.le_of_ble_eq_true rfl) (by omega) (by omega) dX8_line_130 rfl ((rd_addG hg (by omega) I2 (by omega) (by omega) (fun h3 o3 I3 g3 => ?_)))
  refine nd_pop hC (by rfl) dX8_line_133 ?_
  refine nd_goto hC (tgt := 229) dX8_line_134 (by decide) ?_
  refine nd_return hC rfl (by omega) (by omega) dX8_line_229 ((hk _ rfl h3 o3 m I3 (g2.trans g3)))
theorem rd_lnW (hg : nd_OK g) (hd : 44 ≤ d) (hC : nd_Cx g mX8_line X) {p0 : Nat} (HI : rd_I o h r T (tx_h T p0) m N) (hp : p0 ≤ T.length) (hk0 : tx_k T p0 ≠ 0) (hmc : rc T (tx_llaw T (tx_sum T 6 6) p0) p0 = mc) (hms : rs T (tx_llaw T (tx_sum T 6 6) p0) p0 = ms) (hk : ∀ x, tx_llaw T (tx_sum T 6 6) p0 = .inl x → ∀ h2 o2 m2, rd_I o2 h2 r T x.2 m2 (tx_put N 2 x.1) → rd_g r h h2 → K (.inl none) h2) (he : ∀ e, tx_llaw T (tx_sum T 6 6) p0 = .inr e → ∀ h2 k, rd_g r h h2 → rd_B h2 k e → K (.inr (eBad, k)) h2) : nd_W g mX8_line d mc ms K X 146 [some (.ref r)] [] h 0 0 := by
  have h92 : r ≠ 92 := by have := HI.2.2.2.2.2.2; omega
  have hh := tx_on_h (T := T) (p := p0) hk0 hp
  obtain ⟨c1_0, c2_0, c3_0, ⟨wv0, kv0, hv0, d1_0, d2_0, d3_0, d4_0, -⟩, -⟩ := id HI
  obtain ⟨nu0, hb0, -⟩ := id c3_0
  obtain ⟨mf0, ef0, hf0⟩ := d2_0.sz
  obtain ⟨mb0, eb0, hk0⟩ := d3_0.sz
  obtain ⟨mg0, eg0, hg0⟩ := d4_0.sz
  have hl0 := HI.hl
  refine nd_aload_n hC dX8_line_146 rfl rfl ?_
  refine nd_bipush hC (v := nI 6) (by rfl) dX8_line_147 ?_
  by_cases z : tx_k T (tx_h T p0) = 58
  rotate_left
  · rw [tx_llaw_0 z] at he hmc hms
    have hmc : 2 * (T.length - p0) + 2 = mc := hmc
    have hms : 4 * (T.length - p0) + 9 = ms := hms
    refine nd_callV (mm2 := mX8_law) (As := [_]) (mc2 := 1) (ms2 := 8) (d2 := d - 1) hC rfl lkX8_232 ⟨rfl, lmX8_law⟩ (hb0) rfl (Nat.le_of_ble_eq_true rfl) (by omega) rfl (by exact Nat.le_of_ble_eq_true rfl) (by omega) (by omega) dX8_line_149 rfl ((rd_law0 hg (by omega) HI hh.2 z (fun h2 k g2 b2 => ?_)))
    exact nd_out hC rfl (by omega) (by omega) (he _ rfl h2 k g2 b2)
  rw [tx_llaw_1 z] at hk he hmc hms
  have hh2 := tx_on_h (T := T) (p := tx_h T p0) (by omega) hh.2
  generalize eq2 : tx_h T (tx_h T p0) = q2 at *
  have hGx : tx_gd T q2 ((tx_sum T 6 6) q2) := tx_G_sum T 6 6 q2 hh2.2
  have hcc : rc T ((tx_sum T 6 6) q2) q2 ≤ mc ∧ rs T ((tx_sum T 6 6) q2) q2 ≤ ms := by
    rw [← hmc, ← hms]
    generalize (tx_sum T 6 6) q2 = R at hGx
    cases R with
    | inr e => exact ⟨(by show 2 * (T.length - q2) + 2 ≤ 2 * (T.length - p0) + 2; omega), (by show 4 * (T.length - q2) + 9 ≤ 4 * (T.length - p0) + 9; omega)⟩
    | inl x => exact ⟨(by show 2 * (x.2 - q2) ≤ 2 * (x.2 - p0); omega), (by show 4 * (x.2 - q2) ≤ 4 * (x.2 - p0); omega)⟩
  refine nd_callV (mm2 := mX8_law) (As := [_]) (mc2 := 0) (ms2 := 0) (d2 := d - 1) hC rfl lkX8_232 ⟨rfl, lmX8_law⟩ (hb0) rfl (Nat.le_of_ble_eq_true rfl) (by omega) rfl (by exact Nat.le_of_ble_eq_true rfl) (by omega) (by omega) dX8_line_149 rfl ((rd_law1 hg (by omega) HI hh.2 (by omega) z (fun h1 I1 g1 => ?_)))
  rw [eq2] at I1
  obtain ⟨c1_1, c2_1, c3_1, ⟨wv1, kv1, hv1, d1_1, d2_1, d3_1, d4_1, -⟩, -⟩ := id I1
  obtain ⟨nu1, hb1, -⟩ := id c3_1
  obtain ⟨mf1, ef1, hf1⟩ := d2_1.sz
  obtain ⟨mb1, eb1, hk1⟩ := d3_1.sz
  obtain ⟨mg1, eg1, hg1⟩ := d4_1.sz
  have hl1 := I1.hl
  obtain ⟨-, -, -, -, hol1, -⟩ := id I1
  have z0 : o r = 0 := by
    by_cases q : o r = 0
    · exact q
    · have := hol1 r q; omega
  refine nd_aload_n hC dX8_line_152 rfl rfl ?_
  refine nd_get (ci := nX8) hC in_X8 rfl hb1 3 (by decide) q1627 (fun _ z => z) rfl dX8_line_153 ?_
  refine nd_aload_n hC dX8_line_156 rfl rfl ?_
  refine nd_callV (mm2 := mX8_sum) (As := []) (mc2 := rc T ((tx_sum T 6 6) q2) q2) (ms2 := rs T ((tx_sum T 6 6) q2) q2) (d2 := d - 1) hC rfl lkX8_133 ⟨rfl, lmX8_sum⟩ (hb1) rfl (Nat.le_of_ble_eq_true rfl) (by omega) rfl (by exact Nat.le_of_ble_eq_true rfl) (by omega) (by omega) dX8_line_157 rfl (((rd_sum hg h92 (by omega) (m := 6) (by omega) 6 _ 0 (by omega) rfl) o h1 _ q2 hh2.2 c1_1 c2_1 c3_1 (by omega) (fun a ha => (hol1 a ha).2) (fun x ex h2 o2 a aR af ao asu => ?_) (fun e ee => ?_)))
  rotate_left
  · intro h2 k f2 b2
    exact nd_out hC rfl (by omega) (by omega) (he _ ee h2 k (g1.trans (f2.g (by omega))) b2)
  have I2 := I1.t aR af ao
  rw [ex] at hGx hmc hms
  have hGx : q2 + x.1.length ≤ x.2 ∧ x.2 ≤ T.length := hGx
  obtain ⟨tf9, t91, t92, t93, t94⟩ := id I2.1
  have hf9 : x.2 - q2 ≤ 900 := by omega
  have g2 : rd_g r h h2 := g1.trans (af.g (by omega))
  have hl2 := I2.hl
  obtain ⟨-, -, -, ⟨wv2, kv2, hv2, e1, -, -, -, e5, e6, e7⟩, -⟩ := id I2
  refine nd_putN (ci := nX3) hC in_X3 rfl e1 4 (by decide) tyX3 tyX3_ok (by decide +kernel) q279 (fun _ z => z) rfl rfl rfl (by show 4 < 7; decide) dX8_line_160 ?_
  refine nd_goto hC (tgt := 229) dX8_line_163 (by decide) ?_
  refine nd_return hC rfl (by omega) (by omega) dX8_line_229 ((hk x ex _ o2 6 (I2.md (N2 := tx_put N 2 x.1) rfl rfl rfl (Or.inr ⟨asu.ne, a, _, rfl, hf9, asu⟩) (e6) (e7)) (g2.trans (rd_g.setG (by omega)))))
theorem rd_lnH (hg : nd_OK g) (hd : 44 ≤ d) (hC : nd_Cx g mX8_line X) {p0 : Nat} (HI : rd_I o h r T (tx_h T p0) m N) (hp : p0 ≤ T.length) (hk0 : tx_k T p0 ≠ 0) (hmc : rc T (tx_llaw T (tx_truth T 6 6) p0) p0 = mc) (hms : rs T (tx_llaw T (tx_truth T 6 6) p0) p0 = ms) (hk : ∀ x, tx_llaw T (tx_truth T 6 6) p0 = .inl x → ∀ h2 o2 m2, rd_I o2 h2 r T x.2 m2 (tx_put N 3 x.1) → rd_g r h h2 → K (.inl none) h2) (he : ∀ e, tx_llaw T (tx_truth T 6 6) p0 = .inr e → ∀ h2 k, rd_g r h h2 → rd_B h2 k e → K (.inr (eBad, k)) h2) : nd_W g mX8_line d mc ms K X 175 [some (.ref r)] [] h 0 0 := by
  have h92 : r ≠ 92 := by have := HI.2.2.2.2.2.2; omega
  have hh := tx_on_h (T := T) (p := p0) hk0 hp
  obtain ⟨c1_0, c2_0, c3_0, ⟨wv0, kv0, hv0, d1_0, d2_0, d3_0, d4_0, -⟩, -⟩ := id HI
  obtain ⟨nu0, hb0, -⟩ := id c3_0
  obtain ⟨mf0, ef0, hf0⟩ := d2_0.sz
  obtain ⟨mb0, eb0, hk0⟩ := d3_0.sz
  obtain ⟨mg0, eg0, hg0⟩ := d4_0.sz
  have hl0 := HI.hl
  refine nd_aload_n hC dX8_line_175 rfl rfl ?_
  refine nd_bipush hC (v := nI 6) (by rfl) dX8_line_176 ?_
  by_cases z : tx_k T (tx_h T p0) = 58
  rotate_left
  · rw [tx_llaw_0 z] at he hmc hms
    have hmc : 2 * (T.length - p0) + 2 = mc := hmc
    have hms : 4 * (T.length - p0) + 9 = ms := hms
    refine nd_callV (mm2 := mX8_law) (As := [_]) (mc2 := 1) (ms2 := 8) (d2 := d - 1) hC rfl lkX8_232 ⟨rfl, lmX8_law⟩ (hb0) rfl (Nat.le_of_ble_eq_true rfl) (by omega) rfl (by exact Nat.le_of_ble_eq_true rfl) (by omega) (by omega) dX8_line_178 rfl ((rd_law0 hg (by omega) HI hh.2 z (fun h2 k g2 b2 => ?_)))
    exact nd_out hC rfl (by omega) (by omega) (he _ rfl h2 k g2 b2)
  rw [tx_llaw_1 z] at hk he hmc hms
  have hh2 := tx_on_h (T := T) (p := tx_h T p0) (by omega) hh.2
  generalize eq2 : tx_h T (tx_h T p0) = q2 at *
  have hGx : tx_gd T q2 ((tx_truth T 6 6) q2) := tx_G_truth T 6 6 q2 hh2.2
  have hcc : rc T ((tx_truth T 6 6) q2) q2 ≤ mc ∧ rs T ((tx_truth T 6 6) q2) q2 ≤ ms := by
    rw [← hmc, ← hms]
    generalize (tx_truth T 6 6) q2 = R at hGx
    cases R with
    | inr e => exact ⟨(by show 2 * (T.length - q2) + 2 ≤ 2 * (T.length - p0) + 2; omega), (by show 4 * (T.length - q2) + 9 ≤ 4 * (T.length - p0) + 9; omega)⟩
    | inl x => exact ⟨(by show 2 * (x.2 - q2) ≤ 2 * (x.2 - p0); omega), (by show 4 * (x.2 - q2) ≤ 4 * (x.2 - p0); omega)⟩
  refine nd_callV (mm2 := mX8_law) (As := [_]) (mc2 := 0) (ms2 := 0) (d2 := d - 1) hC rfl lkX8_232 ⟨rfl, lmX8_law⟩ (hb0) rfl (Nat.le_of_ble_eq_true rfl) (by omega) rfl (by exact Nat.le_of_ble_eq_true rfl) (by omega) (by omega) dX8_line_178 rfl ((rd_law1 hg (by omega) HI hh.2 (by omega) z (fun h1 I1 g1 => ?_)))
  rw [eq2] at I1
  obtain ⟨c1_1, c2_1, c3_1, ⟨wv1, kv1, hv1, d1_1, d2_1, d3_1, d4_1, -⟩, -⟩ := id I1
  obtain ⟨nu1, hb1, -⟩ := id c3_1
  obtain ⟨mf1, ef1, hf1⟩ := d2_1.sz
  obtain ⟨mb1, eb1, hk1⟩ := d3_1.sz
  obtain ⟨mg1, eg1, hg1⟩ := d4_1.sz
  have hl1 := I1.hl
  obtain ⟨-, -, -, -, hol1, -⟩ := id I1
  have z0 : o r = 0 := by
    by_cases q : o r = 0
    · exact q
    · have := hol1 r q; omega
  refine nd_aload_n hC dX8_line_181 rfl rfl ?_
  refine nd_get (ci := nX8) hC in_X8 rfl hb1 3 (by decide) q1627 (fun _ z => z) rfl dX8_line_182 ?_
  refine nd_aload_n hC dX8_line_185 rfl rfl ?_
  refine nd_callV (mm2 := mX8_truth) (As := []) (mc2 := rc T ((tx_truth T 6 6) q2) q2) (ms2 := rs T ((tx_truth T 6 6) q2) q2) (d2 := d - 1) hC rfl lkX8_173 ⟨rfl, lmX8_truth⟩ (hb1) rfl (Nat.le_of_ble_eq_true rfl) (by omega) rfl (by exact Nat.le_of_ble_eq_true rfl) (by omega) (by omega) dX8_line_186 rfl (((rd_truth hg h92 (by omega) (m := 6) (by omega) (k := 6) (dp := 0) (by omega) rfl) o h1 _ q2 hh2.2 c1_1 c2_1 c3_1 (by omega) (fun a ha => (hol1 a ha).2) (fun x ex h2 o2 a aR af ao asu => ?_) (fun e ee => ?_)))
  rotate_left
  · intro h2 k f2 b2
    exact nd_out hC rfl (by omega) (by omega) (he _ ee h2 k (g1.trans (f2.g (by omega))) b2)
  have I2 := I1.t aR af ao
  rw [ex] at hGx hmc hms
  have hGx : q2 + x.1.length ≤ x.2 ∧ x.2 ≤ T.length := hGx
  obtain ⟨tf9, t91, t92, t93, t94⟩ := id I2.1
  have hf9 : x.2 - q2 ≤ 900 := by omega
  obtain ⟨F9, asu⟩ := asu
  have g2 : rd_g r h h2 := g1.trans (af.g (by omega))
  have hl2 := I2.hl
  obtain ⟨-, -, -, ⟨wv2, kv2, hv2, e1, -, -, -, e5, e6, e7⟩, -⟩ := id I2
  refine nd_putN (ci := nX3) hC in_X3 rfl e1 6 (by decide) tyX3 tyX3_ok (by decide +kernel) q283 (fun _ z => z) rfl rfl rfl (by show 6 < 7; decide) dX8_line_189 ?_
  refine nd_goto hC (tgt := 229) dX8_line_192 (by decide) ?_
  refine nd_return hC rfl (by omega) (by omega) dX8_line_229 ((hk x ex _ o2 6 (I2.md (N2 := tx_put N 3 x.1) rfl rfl rfl (e5) (Or.inr ⟨asu.ne, a, F9, _, rfl, hf9, asu⟩) (e7)) (g2.trans (rd_g.setG (by omega)))))
theorem rd_lnL (hg : nd_OK g) (hd : 44 ≤ d) (hC : nd_Cx g mX8_line X) {p0 : Nat} (HI : rd_I o h r T (tx_h T p0) m N) (hp : p0 ≤ T.length) (hk0 : tx_k T p0 ≠ 0) (hmc : rc T (tx_llaw T (tx_sum T 8 6) p0) p0 = mc) (hms : rs T (tx_llaw T (tx_sum T 8 6) p0) p0 = ms) (hk : ∀ x, tx_llaw T (tx_sum T 8 6) p0 = .inl x → ∀ h2 o2 m2, rd_I o2 h2 r T x.2 m2 (tx_put N 4 x.1) → rd_g r h h2 → K (.inl none) h2) (he : ∀ e, tx_llaw T (tx_sum T 8 6) p0 = .inr e → ∀ h2 k, rd_g r h h2 → rd_B h2 k e → K (.inr (eBad, k)) h2) : nd_W g mX8_line d mc ms K X 204 [some (.ref r)] [] h 0 0 := by
  have h92 : r ≠ 92 := by have := HI.2.2.2.2.2.2; omega
  have hh := tx_on_h (T := T) (p := p0) hk0 hp
  obtain ⟨c1_0, c2_0, c3_0, ⟨wv0, kv0, hv0, d1_0, d2_0, d3_0, d4_0, -⟩, -⟩ := id HI
  obtain ⟨nu0, hb0, -⟩ := id c3_0
  obtain ⟨mf0, ef0, hf0⟩ := d2_0.sz
  obtain ⟨mb0, eb0, hk0⟩ := d3_0.sz
  obtain ⟨mg0, eg0, hg0⟩ := d4_0.sz
  have hl0 := HI.hl
  refine nd_aload_n hC dX8_line_204 rfl rfl ?_
  refine nd_bipush hC (v := nI 8) (by rfl) dX8_line_205 ?_
  by_cases z : tx_k T (tx_h T p0) = 58
  rotate_left
  · rw [tx_llaw_0 z] at he hmc hms
    have hmc : 2 * (T.length - p0) + 2 = mc := hmc
    have hms : 4 * (T.length - p0) + 9 = ms := hms
    refine nd_callV (mm2 := mX8_law) (As := [_]) (mc2 := 1) (ms2 := 8) (d2 := d - 1) hC rfl lkX8_232 ⟨rfl, lmX8_law⟩ (hb0) rfl (Nat.le_of_ble_eq_true rfl) (by omega) rfl (by exact Nat.le_of_ble_eq_true rfl) (by omega) (by omega) dX8_line_207 rfl ((rd_law0 hg (by omega) HI hh.2 z (fun h2 k g2 b2 => ?_)))
    exact nd_out hC rfl (by omega) (by omega) (he _ rfl h2 k g2 b2)
  rw [tx_llaw_1 z] at hk he hmc hms
  have hh2 := tx_on_h (T := T) (p := tx_h T p0) (by omega) hh.2
  generalize eq2 : tx_h T (tx_h T p0) = q2 at *
  have hGx : tx_gd T q2 ((tx_sum T 8 6) q2) := tx_G_sum T 8 6 q2 hh2.2
  have hcc : rc T ((tx_sum T 8 6) q2) q2 ≤ mc ∧ rs T ((tx_sum T 8 6) q2) q2 ≤ ms := by
    rw [← hmc, ← hms]
    generalize (tx_sum T 8 6) q2 = R at hGx
    cases R with
    | inr e => exact ⟨(by show 2 * (T.length - q2) + 2 ≤ 2 * (T.length - p0) + 2; omega), (by show 4 * (T.length - q2) + 9 ≤ 4 * (T.length - p0) + 9; omega)⟩
    | inl x => exact ⟨(by show 2 * (x.2 - q2) ≤ 2 * (x.2 - p0); omega), (by show 4 * (x.2 - q2) ≤ 4 * (x.2 - p0); omega)⟩
  refine nd_callV (mm2 := mX8_law) (As := [_]) (mc2 := 0) (ms2 := 0) (d2 := d - 1) hC rfl lkX8_232 ⟨rfl, lmX8_law⟩ (hb0) rfl (Nat.le_of_ble_eq_true rfl) (by omega) rfl (by exact Nat.le_of_ble_eq_true rfl) (by omega) (by omega) dX8_line_207 rfl ((rd_law1 hg (by omega) HI hh.2 (by omega) z (fun h1 I1 g1 => ?_)))
  rw [eq2] at I1
  obtain ⟨c1_1, c2_1, c3_1, ⟨wv1, kv1, hv1, d1_1, d2_1, d3_1, d4_1, -⟩, -⟩ := id I1
  obtain ⟨nu1, hb1, -⟩ := id c3_1
  obtain ⟨mf1, ef1, hf1⟩ := d2_1.sz
  obtain ⟨mb1, eb1, hk1⟩ := d3_1.sz
  obtain ⟨mg1, eg1, hg1⟩ := d4_1.sz
  have hl1 := I1.hl
  obtain ⟨-, -, -, -, hol1, -⟩ := id I1
  have z0 : o r = 0 := by
    by_cases q : o r = 0
    · exact q
    · have := hol1 r q; omega
  refine nd_aload_n hC dX8_line_210 rfl rfl ?_
  refine nd_get (ci := nX8) hC in_X8 rfl hb1 3 (by decide) q1627 (fun _ z => z) rfl dX8_line_211 ?_
  refine nd_aload_n hC dX8_line_214 rfl rfl ?_
  refine nd_callV (mm2 := mX8_sum) (As := []) (mc2 := rc T ((tx_sum T 8 6) q2) q2) (ms2 := rs T ((tx_sum T 8 6) q2) q2) (d2 := d - 1) hC rfl lkX8_133 ⟨rfl, lmX8_sum⟩ (hb1) rfl (Nat.le_of_ble_eq_true rfl) (by omega) rfl (by exact Nat.le_of_ble_eq_true rfl) (by omega) (by omega) dX8_line_215 rfl (((rd_sum hg h92 (by omega) (m := 8) (by omega) 6 _ 0 (by omega) rfl) o h1 _ q2 hh2.2 c1_1 c2_1 c3_1 (by omega) (fun a ha => (hol1 a ha).2) (fun x ex h2 o2 a aR af ao asu => ?_) (fun e ee => ?_)))
  rotate_left
  · intro h2 k f2 b2
    exact nd_out hC rfl (by omega) (by omega) (he _ ee h2 k (g1.trans (f2.g (by omega))) b2)
  have I2 := I1.t aR af ao
  rw [ex] at hGx hmc hms
  have hGx : q2 + x.1.length ≤ x.2 ∧ x.2 ≤ T.length := hGx
  obtain ⟨tf9, t91, t92, t93, t94⟩ := id I2.1
  have hf9 : x.2 - q2 ≤ 900 := by omega
  have g2 : rd_g r h h2 := g1.trans (af.g (by omega))
  have hl2 := I2.hl
  obtain ⟨-, -, -, ⟨wv2, kv2, hv2, e1, -, -, -, e5, e6, e7⟩, -⟩ := id I2
  refine nd_putN (ci := nX3) hC in_X3 rfl e1 5 (by decide) tyX3 tyX3_ok (by decide +kernel) q281 (fun _ z => z) rfl rfl rfl (by show 5 < 7; decide) dX8_line_218 ?_
  refine nd_goto hC (tgt := 229) dX8_line_221 (by decide) ?_
  refine nd_return hC rfl (by omega) (by omega) dX8_line_229 ((hk x ex _ o2 8 (I2.md (N2 := tx_put N 4 x.1) rfl rfl rfl (e5) (e6) (Or.inr ⟨asu.ne, a, _, rfl, hf9, asu⟩)) (g2.trans (rd_g.setG (by omega)))))
end RD991

