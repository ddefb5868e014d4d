set_option maxRecDepth 100000
/-! ===== State.begins; napkin ===== -/
theorem rd_l.get {o : Nat → Nat} {h : nd_H} {a i : Nat} {ws : List Nat} (H : rd_l o h a ws) (hi : i < ws.length) : ∃ ed gf, ca_L h a ed ws.length gf ∧ gf i = nd_f (1000 + (128 + ws.getD i 0)) := by
  rcases H with ⟨e, -⟩ | ⟨m, ed, gf, -, z2, z3, z4⟩
  · subst e; exact absurd hi (Nat.not_lt_zero _)
  · exact ⟨ed, gf, ⟨m, z2, z3⟩, z4 i hi⟩
section CP993
variable {g : nd_G} {mm : nd_Mt} {d mc ms : Nat} {K : nd_K} {X : nd_X} {pc : Nat} {lv : List (Option Value)} {st : List Value} {h : nd_H} {cs ss : Nat} {o : Nat → Nat} {nap : Nat} {ds : List Nat} {gi : Nat → Value} {dss : Nat → List Nat} {S : sy_S}
theorem cs_begins (hg : nd_OK g) (hd : 5 ≤ d) {a r : Nat} {fr bk fo : Nat → Int32} {mn : Int32} {N : tx_N} (hS : cs_S h a nap fr bk fo mn) (ha : a + 8 ≤ r) (hN : rd_N o h r N) (hol : ∀ x, o x ≠ 0 → r + 6 ≤ x) (hNI : tx_NI N) (hk : ∀ h2, cs_fr a h h2 → cs_st h2 a (r + 2) ([], N.1, N.2.1) → K (.inl none) h2) : nd_M g mX2_begins d 0 0 [.ref a, .ref (r + 2)] h K := by
  obtain ⟨s1, s2, s3, s4⟩ := hS
  obtain ⟨wv, kv, hv, n1, n2, n3, n4, -⟩ := hN
  obtain ⟨hNa, hNb, hNc, hNd, hNe, -⟩ := hNI
  obtain ⟨m3, e3, f3⟩ := n2.sz
  obtain ⟨m4, e4, f4⟩ := n3.sz
  have q1 := nd_get_lt s1
  have q2 := nd_get_lt s2
  have q3 := nd_get_lt s3
  refine nd_enter hg (by decide) rfl (Nat.le_of_ble_eq_true rfl) (fun X hC => ?_)
  refine nd_aload_n hC dX2_begins_0 rfl rfl ?_
  refine nd_aload_n hC dX2_begins_1 rfl rfl ?_
  refine cs_putN hC s1 q300 dX2_begins_2 ?_
  refine nd_iconst hC (v := nI 0) (by rfl) dX2_begins_5 ?_
  refine nd_istore_n hC dX2_begins_6 (Nat.le_of_ble_eq_true rfl) ?_
  have LP : ∀ i, i ≤ N.1.length → ∀ (h1 : nd_H) (fr1 bk1 : Nat → Int32), cs_fr a h h1 → cs_S h1 a (r + 2) fr1 bk1 fo mn → (∀ c, c < i → fr1 c = nI (N.1.getD c 0)) → (∀ c, c < i → bk1 c = nI (N.2.1.getD c 0)) → nd_W g mX2_begins d 0 0 K X 7 [some (.ref a), some (.ref (r + 2)), some (.int (nI i))] [] h1 0 0 := by
    refine nd_for _ _ ?_ ?_
    · intro h1 fr1 bk1 f1 S1 v1 v2
      obtain ⟨t1, t2, t3, t4⟩ := S1
      have b1 := (f1.2 (r + 2) (by omega)).trans n1
      have b3 := (f1.2 (r + 3) (by omega)).trans f3
      refine nd_iload_n hC dX2_begins_7 rfl ?_
      refine nd_aload_n hC dX2_begins_8 rfl rfl ?_
      refine nd_callV (mm2 := mX3_cells) (As := []) (mc2 := 0) (ms2 := 0) (d2 := d - 1) hC rfl lkX2_38 ⟨rfl, lmX3_cells⟩ (b1) rfl (Nat.le_of_ble_eq_true rfl) (by omega) rfl (by exact Nat.le_of_ble_eq_true rfl) (by omega) (by omega) dX2_begins_9 rfl ((cn_cells (o := fun _ => 1) hg (by omega) ⟨r + 3, _, _, _, _, _, _, _, _, rfl, rfl, b1, b3⟩ ?_))
      first | with_reducible refine nd_icmp_geN hC (tgt := 61) (by omega) (by omega) dX2_begins_12 (by decide) (fun hq => ?_) (fun hq => ?_) | refine nd_icmp_ge hC (tgt := 61) dX2_begins_12 (by decide) (fun hq => ?_) (fun hq => ?_)
      · refine nd_aload_n hC dX2_begins_61 rfl rfl ?_
        refine nd_iconst hC (v := nI 0) (by rfl) dX2_begins_62 ?_
        refine cs_putM hC t1 q308 dX2_begins_63 ?_
        have l1 := nd_get_lt t1
        refine nd_return hC rfl (by omega) (by omega) dX2_begins_66 ((hk _ (f1.trans (cs_fr.set (Or.inl rfl))) ⟨fr1, bk1, fo, nI 0, ⟨List.getElem?_set_self l1, (List.getElem?_set_ne (by omega)).trans t2, (List.getElem?_set_ne (by omega)).trans t3, (List.getElem?_set_ne (by omega)).trans t4⟩, rfl, fun i hi => absurd hi (Nat.not_lt_zero _), v1, fun c hc => v2 c (by rw [← hNb]; exact hc)⟩))
      · omega
    · intro i hi ih h1 fr1 bk1 f1 S1 v1 v2
      obtain ⟨t1, t2, t3, t4⟩ := S1
      have b1 := (f1.2 (r + 2) (by omega)).trans n1
      have b3 := (f1.2 (r + 3) (by omega)).trans f3
      have N3 : rd_l o h1 (r + 3) N.1 := n2.go (f1.2 _ (by omega)) (fun b hb => f1.2 b (by have := hol b (by omega); omega)) (fun _ _ => rfl)
      have N4 : rd_l o h1 (r + 4) N.2.1 := n3.go (f1.2 _ (by omega)) (fun b hb => f1.2 b (by have := hol b (by omega); omega)) (fun _ _ => rfl)
      obtain ⟨ed3, gf3, L3, w3⟩ := N3.get hi
      obtain ⟨m3a, L3b, -⟩ := id L3
      have hv3 := hNd i
      have hv4 := hNe i
      refine nd_iload_n hC dX2_begins_7 rfl ?_
      refine nd_aload_n hC dX2_begins_8 rfl rfl ?_
      refine nd_callV (mm2 := mX3_cells) (As := []) (mc2 := 0) (ms2 := 0) (d2 := d - 1) hC rfl lkX2_38 ⟨rfl, lmX3_cells⟩ (b1) rfl (Nat.le_of_ble_eq_true rfl) (by omega) rfl (by exact Nat.le_of_ble_eq_true rfl) (by omega) (by omega) dX2_begins_9 rfl ((cn_cells (o := fun _ => 1) hg (by omega) ⟨r + 3, _, _, _, _, _, _, _, _, rfl, rfl, b1, b3⟩ ?_))
      first | with_reducible refine nd_icmp_geN hC (tgt := 61) (by omega) (by omega) dX2_begins_12 (by decide) (fun hq => ?_) (fun hq => ?_) | refine nd_icmp_ge hC (tgt := 61) dX2_begins_12 (by decide) (fun hq => ?_) (fun hq => ?_)
      · omega
      refine nd_aload_n hC dX2_begins_15 rfl rfl ?_
      refine nd_get (ci := nX2) hC in_X2 rfl t1 1 (by decide) q302 (fun _ z => z) rfl dX2_begins_16 ?_
      refine nd_iload_n hC dX2_begins_19 rfl ?_
      refine nd_aload_n hC dX2_begins_20 rfl rfl ?_
      refine nd_getN (ci := nX3) hC in_X3 rfl b1 0 (by decide) q269 (fun _ z => z) rfl dX2_begins_21 ?_
      refine nd_iload_n hC dX2_begins_24 rfl ?_
      refine nd_callV (mm2 := mJ2_get) (As := [_]) (mc2 := 0) (ms2 := 0) (d2 := d - 1) hC rfl lkX2_45 ⟨rfl, lmJ2_get⟩ (L3b) rfl (Nat.le_of_ble_eq_true rfl) (by omega) rfl (by exact Nat.le_of_ble_eq_true rfl) (by omega) (by omega) dX2_begins_25 rfl ((ca_get hg (by omega) L3 hi (by omega) (by rw [w3]; rfl) ?_))
      rw [w3]
      refine nd_castI hC (by omega) q1922 dX2_begins_28 ?_
      refine nd_callVI (mm2 := mJ14_intValue) (As := []) (d2 := d - 1) hC (by omega) rfl lkX2_53 ⟨rfl, lmJ14_intValue⟩ (Nat.le_of_ble_eq_true rfl) (by omega) rfl (by exact Nat.le_of_ble_eq_true rfl) (by omega) (by omega) dX2_begins_31 rfl (cb_int hg hv3 ?_)
      refine nd_iastoreN hC t2 (by omega) (by omega) dX2_begins_34 ?_
      have lq2 := nd_get_lt t2
      have lq3 := nd_get_lt t3
      generalize e5 : h1.set (a + 5) _ = h2
      have f5 : cs_fr a h1 h2 := by rw [← e5]; exact cs_fr.set (by omega)
      have g5 : ∀ b, b ≠ a + 5 → h2[b]? = h1[b]? := fun b hb => by rw [← e5]; exact List.getElem?_set_ne (Ne.symm hb)
      have u2 : h2[a + 5]? = some (.inl (0, 6, .inl (upd fr1 i (nI (N.1.getD i 0))))) := by rw [← e5]; exact List.getElem?_set_self lq2
      have u1 := (g5 a (by omega)).trans t1
      have u3 := (g5 (a + 6) (by omega)).trans t3
      have u4 := (g5 (a + 7) (by omega)).trans t4
      have b5 := (g5 (r + 2) (by omega)).trans b1
      have N5 : rd_l o h2 (r + 4) N.2.1 := N4.go (g5 _ (by omega)) (fun b hb => g5 b (by have := hol b (by omega); omega)) (fun _ _ => rfl)
      obtain ⟨ed4, gf4, L4, w4⟩ := N5.get (i := i) (by omega)
      obtain ⟨m4a, L4b, -⟩ := id L4
      refine nd_aload_n hC dX2_begins_35 rfl rfl ?_
      refine nd_get (ci := nX2) hC in_X2 rfl u1 2 (by decide) q304 (fun _ z => z) rfl dX2_begins_36 ?_
      refine nd_iload_n hC dX2_begins_39 rfl ?_
      refine nd_aload_n hC dX2_begins_40 rfl rfl ?_
      refine nd_getN (ci := nX3) hC in_X3 rfl b5 1 (by decide) q272 (fun _ z => z) rfl dX2_begins_41 ?_
      refine nd_iload_n hC dX2_begins_44 rfl ?_
      refine nd_callV (mm2 := mJ2_get) (As := [_]) (mc2 := 0) (ms2 := 0) (d2 := d - 1) hC rfl lkX2_45 ⟨rfl, lmJ2_get⟩ (L4b) rfl (Nat.le_of_ble_eq_true rfl) (by omega) rfl (by exact Nat.le_of_ble_eq_true rfl) (by omega) (by omega) dX2_begins_45 rfl ((ca_get hg (by omega) L4 (by omega) (by omega) (by rw [w4]; rfl) ?_))
      rw [w4]
      refine nd_castI hC (by omega) q1922 dX2_begins_48 ?_
      refine nd_callVI (mm2 := mJ14_intValue) (As := []) (d2 := d - 1) hC (by omega) rfl lkX2_53 ⟨rfl, lmJ14_intValue⟩ (Nat.le_of_ble_eq_true rfl) (by omega) rfl (by exact Nat.le_of_ble_eq_true rfl) (by omega) (by omega) dX2_begins_51 rfl (cb_int hg hv4 ?_)
      refine nd_iastoreN hC u3 (by omega) (by omega) dX2_begins_54 ?_
      have lq6 := nd_get_lt u3
      first | with_reducible refine nd_iincN hC dX2_begins_55 rfl (Nat.le_of_ble_eq_true rfl) ?_ | refine nd_iinc hC dX2_begins_55 rfl rfl (Nat.le_of_ble_eq_true rfl) ?_
      refine nd_goto hC (tgt := 7) dX2_begins_58 (by decide) ?_
      refine ih _ (upd fr1 i (nI (N.1.getD i 0))) (upd bk1 i (nI (N.2.1.getD i 0))) (f1.trans (f5.trans (cs_fr.set (b := a + 6) (by omega)))) ⟨(List.getElem?_set_ne (by omega)).trans u1, (List.getElem?_set_ne (by omega)).trans u2, List.getElem?_set_self lq6, (List.getElem?_set_ne (by omega)).trans u4⟩ (fun c hc => ?_) (fun c hc => ?_)
      · by_cases z : c = i
        · rw [z, upd_s]
        · rw [upd_n z]; exact v1 c (by omega)
      · by_cases z : c = i
        · rw [z, upd_s]
        · rw [upd_n z]; exact v2 c (by omega)
  refine LP 0 (Nat.zero_le _) _ fr bk (cs_fr.set (Or.inl rfl)) ⟨List.getElem?_set_self q1, (List.getElem?_set_ne (by omega)).trans s2, (List.getElem?_set_ne (by omega)).trans s3, (List.getElem?_set_ne (by omega)).trans s4⟩ (fun c hc => absurd hc (Nat.not_lt_zero _)) (fun c hc => absurd hc (Nat.not_lt_zero _))
/-- what was read is frozen -/
def oF (o o9 : Nat → Nat) (r : Nat) : Nat → Nat := fun a => if r + 6 ≤ a then (if o9 a = 0 then 0 else 1) else if r + 2 ≤ a then 1 else o a
theorem rd_fin {o9 : Nat → Nat} {r : Nat} {N : tx_N} (H : rd_N o9 h r N) (hol : ∀ a, o9 a ≠ 0 → r + 6 ≤ a ∧ a < h.length) (hNI : tx_NI N) : cn_N (oF o o9 r) h (r + 2) (tx_nk N) := by
  obtain ⟨wv, kv, hv, n1, n2, n3, n4, n5, n6, n7⟩ := H
  obtain ⟨m3, e3, f3⟩ := n2.sz
  have k : fk o9 h h := fun _ _ => rfl
  have o1 : ∀ b, o9 b = 1 → oF o o9 r b = 1 := fun b hb => by
    unfold oF
    rw [if_pos (hol b (by omega)).1, if_neg (by omega)]
  have o2 : ∀ b, r + 2 ≤ b → b < r + 6 → oF o o9 r b = 1 := fun b h1 h2 => by
    unfold oF
    rw [if_neg (by omega), if_pos h1]
  refine ⟨r + 3, r + 4, r + 5, m3, e3, wv, kv, hv, o2 _ (by omega) (by omega), o2 _ (by omega) (by omega), n1, f3, ⟨o2 _ (by omega) (by omega), (by have := hNI.2.2.1; show N.2.2.1.length ≤ 10; omega), ?_⟩, n5.go k o1, n6.go k o1, n7.go k o1⟩
  rcases n4 with ⟨e, m, z⟩ | ⟨m, ed, gf, z1, z2, z3, z4⟩
  · exact Or.inl ⟨e, m, _, z⟩
  · refine Or.inr ⟨ed, gf, ?_, ⟨m, z2, z3⟩, z4⟩
    unfold oF
    rw [if_pos (hol ed (by omega)).1, if_neg (by omega)]
theorem cl_clr (hg : nd_OK g) {τ dl : Nat} (H : cw_l o h dl τ ds) (h10 : ds.length ≤ 10) (hk : ∀ h2, h2.length = h.length → (∀ b, b ≠ dl → o b ≠ τ → h2[b]? = h[b]?) → cw_l o h2 dl τ [] → K (.inl none) h2) : nd_M g mJ2_clear d 0 0 [.ref dl] h K := by
  rcases H with ⟨a1, m, a2⟩ | ⟨m, ed, gf, a1, a2, a3, a4, a5, a6⟩
  · exact al_clear0 hg a2 (fun h2 m2 l2 f2 b2 => hk h2 l2 (fun b hb _ => f2 b hb) (Or.inl ⟨rfl, m2, b2⟩))
  · exact al_clear1 hg a3 a4 h10 (fun h2 m2 gf2 l2 f2 b2 b3 b4 => hk h2 l2 (fun b hb ho => f2 b hb (fun q => ho (by rw [q]; exact a1))) (Or.inr ⟨m2, ed, gf2, a1, a2, b2, b3, fun i hi => b4 i (a5 i hi), fun i hi => absurd hi (Nat.not_lt_zero _)⟩))
theorem cp_napkin (hg : nd_OK g) (hd : 50 ≤ d) (p : Int32) : cp_ok g mX1_napkin d 1820 3700 [.int p] (ex1 eIAE) (mp_i (op_napkin p)) := by
  intro S h K hS hI hl123 hk0 hk1
  obtain ⟨hs, o, nap, ds, gi, dss, hK⟩ := hI
  obtain ⟨⟨x0, hO⟩, h17, hkk, -⟩ := id hK
  unfold cx_O at hO
  have hok := sy_l_ok hS
  have hwd := lk_width hok
  have hn : sy_n S ≤ 6 := hS.1.1.1
  have h5 := sy_len5 hS
  obtain ⟨sfr, sbk, sfo, smn, hSt, hcv⟩ := id hkk.2.1
  obtain ⟨hSt1, hSt2, hSt3, hSt4⟩ := id hSt
  have hcv : cs_v sfr sbk sfo smn (sy_c S) := hcv
  have hsv : sv_ok (sy_n S) (sy_c S) := hS.1.2.1
  unfold mp_i op_napkin at hk0 hk1
  obtain ⟨-, -, -, -, -, -, -, -, ⟨tf, a9, a10⟩, -, a12⟩ := id hK
  have h900 : (sy_b S).length ≤ 900 := hS.2.2.2.1
  have h256 := hS.2.2.2.2.1
  refine nd_enterH _ hg (by decide) rfl (Nat.le_of_ble_eq_true rfl) (fun X hC => ?_)
  refine nd_iload_n hC dX1_napkin_0 rfl ?_
  first | with_reducible refine nd_i2lN hC (by omega) dX1_napkin_1 ?_ | refine nd_i2l hC dX1_napkin_1 ?_
  refine nd_lconst hC (v := lN 0) (by rfl) dX1_napkin_2 ?_
  refine nd_aload_n hC dX1_napkin_3 rfl rfl ?_
  refine nd_get (ci := nX1) hC in_X1 rfl hO 6 (by decide) q392 (fun _ z => z) rfl dX1_napkin_4 ?_
  first | with_reducible refine nd_i2lN hC (by omega) dX1_napkin_7 ?_ | refine nd_i2l hC dX1_napkin_7 ?_
  refine nd_callS (mm2 := mX1_isIn) (As := [_, _, _]) (mc2 := 0) (ms2 := 0) (d2 := d - 1) hC rfl lkX1_106 lmX1_isIn (Nat.le_of_ble_eq_true rfl) (by omega) rfl (by exact Nat.le_of_ble_eq_true rfl) (by omega) (by omega) dX1_napkin_8 rfl ((ci_isIn hg ?_))
  have e : (decide (lN 0 ≤ p.toInt64) && decide (p.toInt64 ≤ lN (sy_b S).length)) = op_in p 0 ((sy_b S).length : Int) := by
    unfold op_in
    rw [Bool.eq_iff_iff, Bool.and_eq_true, nd_lle, nd_lle, nd_tl, lN_toInt (n := 0) (by decide), lN_toInt (n := (sy_b S).length) (by omega), decide_eq_true_iff]
    omega
  rw [e]
  refine nd_callS (mm2 := mX1_needs) (As := [_]) (mc2 := 1) (ms2 := 6) (d2 := d - 1) hC rfl lkX1_110 lmX1_needs (Nat.le_of_ble_eq_true rfl) (by omega) rfl (by exact Nat.le_of_ble_eq_true rfl) (by omega) (by omega) dX1_napkin_11 rfl ((ci_needs hg (fun hc => ?_) (fun hc n => ?_)))
  rotate_left
  · rw [if_neg (by rw [hc]; decide)] at hk1
    exact nd_outH hC rfl (by decide) (by omega) (by omega) (hk1 (Nat.succ_ne_zero _) _ _ ⟨hs.app, o, nap, ds, gi, dss, hK.f cw_f.rfl.app⟩ (cw_f.rfl.app.fr hl123))
  rw [if_pos hc] at hk0
  obtain ⟨k, hk9, rfl⟩ := op_in_nat hc
  rw [nI_cl (by omega)] at hk0
  have hkl : k ≤ (sy_b S).length := by omega
  generalize hT0 : (sy_b S).take k = T at hk0
  have hTl : T.length = k := by rw [← hT0, List.length_take]; omega
  have hTg : ∀ i, T.getD i 0 = if i < k then (sy_b S).getD i 0 else 0 := by
    intro i
    rw [← hT0, List.getD_eq_getElem?_getD, List.getElem?_take]
    split
    · rw [List.getD_eq_getElem?_getD]
    · rfl
  refine nd_aload_n hC dX1_napkin_14 rfl rfl ?_
  refine nd_iconst hC (v := nI 0) (by rfl) dX1_napkin_15 ?_
  refine cx_putFK hC hO rfl dX1_napkin_16 (fun h1 f1 hO1 => ?_)
  refine nd_aload_n hC dX1_napkin_19 rfl rfl ?_
  refine nd_iconst hC (v := -1) (by rfl) dX1_napkin_20 ?_
  refine cx_putFA hC hO1 rfl dX1_napkin_21 (fun h2 f2 hO2 => ?_)
  have fa : ∀ a, a ≠ 0 → h2[a]? = h[a]? := fun a ha => (f2.2 a ha).trans (f1.2 a ha)
  have la : h2.length = h.length := by rw [f2.1, f1.1]
  have KA : cw_K o nap ds gi dss (S.1, S.2.1, S.2.2.1, sy_b S, 0, -1) h2 := hK.tp (b := sy_b S) (fkd := 0) (fp := -1) la (fun a z1 _ => fa a z1) ⟨x0, hO2⟩ ((fa 92 (by omega)).trans a9) a10
  have sA : cw_S h2 := hs.kp (fun a ha => fa a (by unfold cw_sc at ha; omega))
  have hO2' := hO2
  unfold cx_O at hO2'
  refine nd_aload_n hC dX1_napkin_24 rfl rfl ?_
  refine nd_get (ci := nX1) hC in_X1 rfl hO2' 0 (by decide) q384 (fun _ z => z) rfl dX1_napkin_25 ?_
  refine nd_new (ci := nX8) hC [.null, .null, .int 0, .null, .int 0, .int 0, .int 0, .int 0, .int 0, .int 0] in_X8 rfl tyX8 tyX8_ok q1543 q1544 q163 rfl rfl (by omega) (by omega) dX1_napkin_28 ?_
  have hOB : (h2 ++ [(.inr (nX8, [.null, .null, .int 0, .null, .int 0, .int 0, .int 0, .int 0, .int 0, .int 0]) : nd_C)])[0]? = some _ := (List.getElem?_append_left (by omega)).trans hO2'
  have hTB : rd_T (h2 ++ [(.inr (nX8, [.null, .null, .int 0, .null, .int 0, .int 0, .int 0, .int 0, .int 0, .int 0]) : nd_C)]) T := ⟨tf, (List.getElem?_append_left (by omega)).trans ((fa 92 (by omega)).trans a9), fun i hi => by rw [hTg i, if_pos (by omega)]; exact a10 i (by omega), by omega, fun i => by rw [hTg i]; split; exact h256 i; omega⟩
  refine nd_dup hC (by rfl) dX1_napkin_31 ?_
  refine nd_aload_n hC dX1_napkin_32 rfl rfl ?_
  refine nd_get (ci := nX1) hC in_X1 rfl hOB 5 (by decide) q391 (fun _ z => z) rfl dX1_napkin_33 ?_
  refine nd_iload_n hC dX1_napkin_36 rfl ?_
  rw [← hTl]
  refine nd_callI (mm2 := mX8_init) (As := [_, _]) (mc2 := 5) (ms2 := 24) (d2 := d - 1) hC rfl rfl q1547 q163 q1545 q1546 rfl lmX8_init (Nat.le_of_ble_eq_true rfl) (by omega) rfl (by exact Nat.le_of_ble_eq_true rfl) (by omega) (by omega) dX1_napkin_37 rfl ((rd_init (r := h2.length) hg (by omega) (by rw [List.length_append]; rfl) (by omega) hTB l_at_last (fun h3 I3 g3 => ?_)))
  have hl3 := I3.hl
  obtain ⟨-, -, ⟨nu3, hb3, -⟩, -⟩ := id I3
  have g23 : ∀ a, a < h2.length → h3[a]? = h2[a]? := fun a ha => (g3.2 a ha).trans (List.getElem?_append_left ha)
  refine nd_callV (mm2 := mX8_all) (As := []) (mc2 := 2 * T.length + 2) (ms2 := 4 * T.length + 9) (d2 := d - 1) hC rfl lkX1_122 ⟨rfl, lmX8_all⟩ (hb3) rfl (Nat.le_of_ble_eq_true rfl) (by omega) rfl (by exact Nat.le_of_ble_eq_true rfl) (by omega) (by omega) dX1_napkin_40 rfl ((rd_all hg (by omega) (by omega) I3 (fun N eN h4 o4 N4 hNI ol4 g4 => ?_) (fun e ee h4 kb g4 b4 => ?_)))
  rotate_left
  · have g24 : ∀ a, a < h2.length → h4[a]? = h2[a]? := fun a ha => (g4.2 a ha).trans (g23 a ha)
    have l24 : h2.length ≤ h4.length := by have := g4.1; omega
    have cf : cw_f h2 h4 := ⟨l24, fun a c e _ => (g24 a (nd_get_lt e)).trans e⟩
    have KB := KA.f cf
    have sB : cw_S h4 := sA.kp (fun a ha => g24 a (by unfold cw_sc at ha; omega))
    have hOC : cx_O h4 (nI (sy_b S).length) (nI 0) (-1) x0 := (g24 0 (by omega)).trans hO2
    unfold op_napT at hk0
    rw [ee] at hk0
    unfold rd_B at b4
    have hk0n : kb ≠ 0 := fun q => by
      unfold cx_O at hOC
      rw [q, hOC] at b4
      cases b4
    refine nd_catch hC "NapkinDeeds$Bad" [] (24, 64, 71, 139) [(24, 64, 103, 0), (71, 96, 103, 0), (103, 105, 103, 0)] rfl rfl (fun z hz => nomatch hz) (by decide) (by decide) q1534 q1694 ?_
    refine nd_astore_n hC dX1_napkin_71 (Nat.le_of_ble_eq_true rfl) rfl ?_
    refine nd_aload_n hC dX1_napkin_72 rfl rfl ?_
    refine nd_aload_n hC dX1_napkin_73 rfl rfl ?_
    refine nd_getN (ci := nX9) hC in_X9 rfl b4 6 (by decide) q1711 (fun _ z => z) rfl dX1_napkin_74 ?_
    refine cx_putFK hC hOC rfl dX1_napkin_77 (fun h5 f5 hO5 => ?_)
    have b5 := (f5.2 kb hk0n).trans b4
    refine nd_aload_n hC dX1_napkin_80 rfl rfl ?_
    refine nd_aload_n hC dX1_napkin_81 rfl rfl ?_
    refine nd_getN (ci := nX9) hC in_X9 rfl b5 7 (by decide) q1713 (fun _ z => z) rfl dX1_napkin_82 ?_
    refine cx_putFA hC hO5 rfl dX1_napkin_85 (fun h6 f6 hO6 => ?_)
    have b6 := (f6.2 kb hk0n).trans b5
    refine nd_bipush hC (v := -10) (by rfl) dX1_napkin_88 ?_
    refine nd_aload_n hC dX1_napkin_90 rfl rfl ?_
    refine nd_getN (ci := nX9) hC in_X9 rfl b6 6 (by decide) q1711 (fun _ z => z) rfl dX1_napkin_91 ?_
    first | with_reducible refine nd_isubN hC (by omega) dX1_napkin_94 ?_ | refine nd_isub hC dX1_napkin_94 ?_
    refine nd_istore_n hC dX1_napkin_95 (Nat.le_of_ble_eq_true rfl) ?_
    refine nd_aload_n hC dX1_napkin_96 rfl rfl ?_
    refine nd_iconst hC (v := nI 0) (by rfl) dX1_napkin_97 ?_
    refine cx_putT hC hO6 rfl dX1_napkin_98 (fun h7 f7 hO7 => ?_)
    have f47 : ∀ a, a ≠ 0 → h7[a]? = h4[a]? := fun a ha => (f7.2 a ha).trans ((f6.2 a ha).trans (f5.2 a ha))
    have l47 : h7.length = h4.length := by rw [f7.1, f6.1, f5.1]
    refine nd_iload_n hC dX1_napkin_101 rfl ?_
    refine nd_ireturn hC rfl (by first | rfl | exact nd_b_nar _) (by omega) (by omega) dX1_napkin_102 (hk0 rfl h7 ⟨sB.kp (fun a ha => f47 a (by unfold cw_sc at ha; omega)), o, nap, ds, gi, dss, ?_⟩ ⟨by omega, fun a z1 z2 => (f47 a (by omega)).trans ((g24 a (by omega)).trans (fa a (by omega)))⟩)
    obtain ⟨-, -, -, -, -, -, -, -, ⟨tf9, a99, -⟩, -, -⟩ := id KB
    exact KB.tp (b := []) (fkd := e.1) (fp := nI e.2) l47 (fun a z1 _ => f47 a z1) ⟨x0, hO7⟩ ((f47 92 (by omega)).trans a99) (fun i hi => absurd hi (Nat.not_lt_zero _))
  unfold op_napT at hk0
  rw [eN] at hk0
  have g24 : ∀ a, a < h2.length → h4[a]? = h2[a]? := fun a ha => (g4.2 a ha).trans (g23 a ha)
  have l24 : h2.length + 6 ≤ h4.length := by have := g4.1; omega
  have h10 : ds.length ≤ 10 := by have := hkk.2.2.2.1; have : (sy_p S).2.2.length ≤ 10 := hS.1.2.2.1; omega
  have St4 : cs_S h4 1 nap sfr sbk sfo smn := ⟨(g24 _ (by omega)).trans ((fa _ (by omega)).trans hSt1), (g24 _ (by omega)).trans ((fa _ (by omega)).trans hSt2), (g24 _ (by omega)).trans ((fa _ (by omega)).trans hSt3), (g24 _ (by omega)).trans ((fa _ (by omega)).trans hSt4)⟩
  refine nd_callV (mm2 := mX2_begins) (As := [_]) (mc2 := 0) (ms2 := 0) (d2 := d - 1) hC rfl lkX1_126 ⟨rfl, lmX2_begins⟩ (St4.1) rfl (Nat.le_of_ble_eq_true rfl) (by omega) rfl (by exact Nat.le_of_ble_eq_true rfl) (by omega) (by omega) dX1_napkin_43 rfl ((cs_begins hg (by omega) St4 (by omega) N4 (fun a ha => (ol4 a ha).1) hNI (fun h5 f5 S5 => ?_)))
  have hO5 : cx_O h5 (nI (sy_b S).length) (nI 0) (-1) x0 := (f5.2 0 (by omega)).trans ((g24 0 (by omega)).trans hO2)
  have hO5' := hO5
  unfold cx_O at hO5'
  have lo5 : ∀ a c, h2[a]? = some c → ¬ (a = 1 ∨ (6 ≤ a ∧ a < 9)) → h5[a]? = some c := fun a c e z => (f5.2 a (by omega)).trans ((g24 a (nd_get_lt e)).trans e)
  have L5 : cw_l o h5 90 2 ds := hkk.2.2.1.kp (by omega) (fun _ _ => rfl) (fun c e => lo5 90 c ((fa 90 (by omega)).trans e) (by omega)) (fun a c z e => lo5 a c ((fa a (by have := a12 a (by omega); omega)).trans e) (by have := a12 a (by omega); omega))
  have L5b : ∃ q1 q2 q3, h5[90]? = some (.inr (nJ2, [q1, q2, q3])) := by
    rcases L5 with ⟨-, m, z⟩ | ⟨m, ed, gf, -, -, z, -⟩
    · exact ⟨_, _, _, z⟩
    · exact ⟨_, _, _, z⟩
  obtain ⟨y1, y2, y3, L5b⟩ := L5b
  refine nd_aload_n hC dX1_napkin_46 rfl rfl ?_
  refine nd_get (ci := nX1) hC in_X1 rfl hO5' 3 (by decide) q389 (fun _ z => z) rfl dX1_napkin_47 ?_
  refine nd_callV (mm2 := mJ2_clear) (As := []) (mc2 := 0) (ms2 := 0) (d2 := d - 1) hC rfl lkX1_74 ⟨rfl, lmJ2_clear⟩ (L5b) rfl (Nat.le_of_ble_eq_true rfl) (by omega) rfl (by exact Nat.le_of_ble_eq_true rfl) (by omega) (by omega) dX1_napkin_50 rfl ((cl_clr hg L5 h10 (fun h6 l6 f6 L6 => ?_)))
  have hlo : ∀ a, a < 123 → ¬ (2 ≤ a ∧ a ≤ 5) → o a = 0 := fun a z1 z2 => hK.lo z1 z2
  have lo6 : ∀ a c, h2[a]? = some c → ¬ (a = 1 ∨ (6 ≤ a ∧ a < 9)) → a ≠ 90 → o a ≠ 2 → h6[a]? = some c := fun a c e z1 z2 z3 => (f6 a z2 z3).trans (lo5 a c e z1)
  have hO6 : cx_O h6 (nI (sy_b S).length) (nI 0) (-1) x0 := (f6 0 (by omega) (by rw [hlo 0 (by omega) (by omega)]; omega)).trans hO5
  have hi6 : ∀ a, h2.length ≤ a → h6[a]? = h4[a]? := fun a ha => (f6 a (by omega) (fun q => by have := a12 a (by omega); omega)).trans (f5.2 a (by omega))
  have N6 : cn_N (oF o o4 h2.length) h6 (h2.length + 2) (tx_nk N) := by
    refine (rd_fin (o := o) N4 ol4 hNI).k (fun a ha => ?_)
    by_cases q : h2.length ≤ a
    · exact hi6 a q
    · unfold oF at ha
      rw [if_neg (by omega), if_neg (by omega)] at ha
      have z := a12 a (by omega)
      exact (f6 a (by omega) (by omega)).trans (f5.2 a (by omega))
  have S6 : cs_st h6 1 (h2.length + 2) ([], N.1, N.2.1) := S5.kp (fun i c hi hi2 e => (f6 _ (by omega) (by rw [hlo _ (by omega) (by omega)]; omega)).trans e)
  obtain ⟨fa6, ba6, ga6, m6, ed6, wv6, kv6, hv6, -, -, n61, -⟩ := id N6
  obtain ⟨fr6, bk6, fo6, mn6, ⟨s61, -⟩, -⟩ := id S6
  have hO6' := hO6
  unfold cx_O at hO6'
  refine nd_aload_n hC dX1_napkin_53 rfl rfl ?_
  refine nd_get (ci := nX1) hC in_X1 rfl hO6' 0 (by decide) q384 (fun _ z => z) rfl dX1_napkin_54 ?_
  refine nd_getN (ci := nX2) hC in_X2 rfl s61 0 (by decide) q301 (fun _ z => z) rfl dX1_napkin_57 ?_
  refine nd_getN (ci := nX3) hC in_X3 rfl n61 3 (by decide) q277 (fun _ z => z) rfl dX1_napkin_60 ?_
  refine nd_istore_n hC dX1_napkin_63 (Nat.le_of_ble_eq_true rfl) ?_
  refine nd_aload_n hC dX1_napkin_64 rfl rfl ?_
  refine nd_iconst hC (v := nI 0) (by rfl) dX1_napkin_65 ?_
  refine cx_putT hC hO6 rfl dX1_napkin_66 (fun h7 f7 hO7 => ?_)
  refine nd_iload_n hC dX1_napkin_69 rfl ?_
  have KC : cw_K (oF o o4 h2.length) (h2.length + 2) [] gi dss (sy_set (S.1, S.2.1, S.2.2.1, sy_b S, 0, -1) (tx_nk N, ([], N.1, N.2.1), [])) h6 := by
    have hoF : ∀ a, o a ≠ 0 → oF o o4 h2.length a = o a := fun a ha => by
      have := a12 a ha
      unfold oF
      rw [if_neg (by omega), if_neg (by omega)]
    refine KA.mv hoF (fun a ha => ?_) ⟨x0, hO6⟩ (fun a c e z => ?_) ⟨N6, S6, ?_, rfl, fun i hi => absurd hi (Nat.not_lt_zero _)⟩ ?_
    · unfold oF at ha
      by_cases q : h2.length + 6 ≤ a
      · rw [if_pos q] at ha
        have z := ol4 a (by intro y; rw [if_pos y] at ha; exact ha rfl)
        exact ⟨by rw [l6, f5.1]; exact z.2, by omega⟩
      · rw [if_neg q] at ha
        by_cases q2 : h2.length + 2 ≤ a
        · exact ⟨by rw [l6, f5.1]; omega, by omega⟩
        · rw [if_neg q2] at ha
          have z := a12 a ha
          exact ⟨by rw [l6, f5.1]; omega, z.2⟩
    · have zz : o a ≠ 2 ∧ ¬ (a = 1 ∨ (6 ≤ a ∧ a < 9)) ∧ a ≠ 90 := by
        rcases z with z | z | z | z | z | ⟨b2, zb, z2⟩
        · exact ⟨(by rw [hlo a (by omega) (by omega)]; omega), (by omega), (by omega)⟩
        · exact ⟨(by rw [hlo a (by omega) (by omega)]; omega), (by omega), (by omega)⟩
        · exact ⟨(by rw [hlo a (by omega) (by omega)]; omega), (by omega), (by omega)⟩
        · have w := a12 a (by omega); exact ⟨(by omega), (by omega), (by omega)⟩
        · have w := a12 a (by omega); exact ⟨(by omega), (by omega), (by omega)⟩
        · have w := a12 a (by omega); exact ⟨(by omega), (by omega), (by omega)⟩
      exact lo6 a c e zz.2.1 zz.2.2 zz.1
    · exact L6.kp (by omega) hoF (fun c e => e) (fun a c z e => e)
    · have hnd : (ds ++ (dss 0 ++ (dss 1 ++ dss 2))).Nodup := by
        obtain ⟨-, -, -, -, -, a6, -⟩ := hK
        exact a6
      exact (List.nodup_append.1 hnd).2.1
  have sC : cw_S h6 := sA.kp (fun a ha => by
    have hz : ¬ (a = 1 ∨ (6 ≤ a ∧ a < 9)) ∧ a ≠ 90 ∧ a < 123 ∧ ¬ (2 ≤ a ∧ a ≤ 5) := by unfold cw_sc at ha; omega
    exact (f6 a hz.2.1 (by rw [hlo a hz.2.2.1 hz.2.2.2]; omega)).trans ((f5.2 a (by omega)).trans (g24 a (by omega))))
  refine nd_ireturn hC rfl (by first | rfl | exact nd_b_nar _) (by omega) (by omega) dX1_napkin_70 (hk0 rfl h7 ⟨sC.kp (fun a ha => f7.2 a (by unfold cw_sc at ha; omega)), oF o o4 h2.length, h2.length + 2, [], gi, dss, ?_⟩ ⟨by rw [f7.1, l6, f5.1]; omega, fun a z1 z2 => (f7.2 a (by omega)).trans ((f6 a (by omega) (by rw [hlo a (by omega) (by omega)]; omega)).trans ((f5.2 a (by omega)).trans ((g24 a (by omega)).trans (fa a (by omega)))))⟩)
  obtain ⟨-, -, -, -, -, -, -, -, ⟨tf9, a99, -⟩, -, -⟩ := id KC
  exact KC.tp (b := []) (fkd := 0) (fp := -1) f7.1 (fun a z1 _ => f7.2 a z1) ⟨x0, hO7⟩ ((f7.2 92 (by omega)).trans a99) (fun i hi => absurd hi (Nat.not_lt_zero _))
end CP993

