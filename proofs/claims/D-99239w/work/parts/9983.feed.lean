set_option maxRecDepth 100000
/-! ===== feed ===== -/
theorem i8_id (x : Int32) : x.toInt8.toInt32.toInt8 = x.toInt8 := by simp
theorem i16_id (x : Int32) : x.toInt16.toInt32.toInt16 = x.toInt16 := by simp
theorem i_sb_toInt {n : Nat} (h : n < 256) : (i_sb n).toInt = if n < 128 then (n : Int) else (n : Int) - 256 := by
  unfold i_sb
  by_cases c : n < 128
  · rw [if_pos c, if_pos c, nI_toInt (by omega)]
  · rw [if_neg c, if_neg c, nd_ti (by omega) (by omega)]; rfl
theorem fe_b_lt (w : Int32) (j : Nat) : fe_b w j < 256 := Nat.mod_lt _ (by decide)
theorem fe_sb {w : Int32} {j : Nat} (hj : j < 4) : (w >>> (nI (24 - 8 * j) &&& 31)).toInt8.toInt32 = i_sb (fe_b w j) := by
  have e1 : ∀ k, k < 31 → (nI k &&& 31) = nI k := by decide +kernel
  have e2 : ∀ k, k < 31 → ((nI k).toBitVec.smod 32).toNat = k := by decide +kernel
  have e3 : (w >>> (nI (24 - 8 * j) &&& 31)).toInt = w.toInt / ((2 ^ (24 - 8 * j) : Nat) : Int) := by
    rw [e1 _ (by omega)]
    show (w >>> nI (24 - 8 * j)).toBitVec.toInt = _
    rw [Int32.toBitVec_shiftRight, BitVec.sshiftRight_eq', e2 _ (by omega), BitVec.toInt_sshiftRight, Int.shiftRight_eq_div_pow]
    rfl
  apply Int32.toInt_inj.1
  rw [Int8.toInt_toInt32, Int32.toInt_toInt8, e3, i_sb_toInt (fe_b_lt w j)]
  have e4 : w.toInt = if 2 * w.toUInt32.toNat < 2 ^ 32 then (w.toUInt32.toNat : Int) else (w.toUInt32.toNat : Int) - ((2 ^ 32 : Nat) : Int) := BitVec.toInt_eq_toNat_cond w.toBitVec
  have hlt := w.toUInt32.toNat_lt
  rw [e4]
  unfold fe_b
  generalize w.toUInt32.toNat = N at hlt ⊢
  obtain rfl | rfl | rfl | rfl : j = 0 ∨ j = 1 ∨ j = 2 ∨ j = 3 := by omega
  all_goals
    simp only [Int.bmod_def, Nat.reduceMul, Nat.reduceSub, Nat.reducePow, Nat.reduceAdd, Nat.reduceDiv]
    split <;> split <;> omega

section CP83
variable {g : nd_G} {mm : nd_Mt} {d mc ms : Nat} {K : nd_K} {X : nd_X} {pc : Nat} {lv : List (Option Value)} {st : List Value} {h : nd_H} {cs ss : Nat} {o : Nat → Nat} {nap : Nat} {ds : List Nat} {gi : Nat → Value} {dss : Nat → List Nat} {S : sy_S}
theorem cx_putT (hC : nd_Cx g mm X) {tp fkd fat x v : Int32} (hO : cx_O h tp fkd fat x) (hm : mm.1.cls = "NapkinDeeds") (hd : decode mm.2.1 pc = .ok (.putfield 99, 3)) (kk : ∀ h2, x0_f h h2 → cx_O h2 v fkd fat x → nd_W g mm d mc ms K X (pc + 3) lv st h2 cs ss) : nd_W g mm d mc ms K X pc lv (.int v :: .ref 0 :: st) h cs ss :=
  nd_put (ci := nX1) hC in_X1 rfl hO 6 (by decide) tyX1 tyX1_ok (by decide +kernel) (by rw [hm]; exact q392) (fun _ z => z) rfl rfl rfl (by show 6 < 13; decide) hd (kk (h.set 0 _) ⟨List.length_set, fun a ha => List.getElem?_set_ne (Ne.symm ha)⟩ (List.getElem?_set_self (nd_get_lt hO)))
theorem cx_putFK (hC : nd_Cx g mm X) {tp fkd fat x v : Int32} (hO : cx_O h tp fkd fat x) (hm : mm.1.cls = "NapkinDeeds") (hd : decode mm.2.1 pc = .ok (.putfield 114, 3)) (kk : ∀ h2, x0_f h h2 → cx_O h2 tp v fat x → nd_W g mm d mc ms K X (pc + 3) lv st h2 cs ss) : nd_W g mm d mc ms K X pc lv (.int v :: .ref 0 :: st) h cs ss :=
  nd_put (ci := nX1) hC in_X1 rfl hO 7 (by decide) tyX1 tyX1_ok (by decide +kernel) (by rw [hm]; exact q393) (fun _ z => z) rfl rfl rfl (by show 7 < 13; decide) hd (kk (h.set 0 _) ⟨List.length_set, fun a ha => List.getElem?_set_ne (Ne.symm ha)⟩ (List.getElem?_set_self (nd_get_lt hO)))
theorem cx_putFA (hC : nd_Cx g mm X) {tp fkd fat x v : Int32} (hO : cx_O h tp fkd fat x) (hm : mm.1.cls = "NapkinDeeds") (hd : decode mm.2.1 pc = .ok (.putfield 52, 3)) (kk : ∀ h2, x0_f h h2 → cx_O h2 tp fkd v x → nd_W g mm d mc ms K X (pc + 3) lv st h2 cs ss) : nd_W g mm d mc ms K X pc lv (.int v :: .ref 0 :: st) h cs ss :=
  nd_put (ci := nX1) hC in_X1 rfl hO 8 (by decide) tyX1 tyX1_ok (by decide +kernel) (by rw [hm]; exact q394) (fun _ z => z) rfl rfl rfl (by show 8 < 13; decide) hd (kk (h.set 0 _) ⟨List.length_set, fun a ha => List.getElem?_set_ne (Ne.symm ha)⟩ (List.getElem?_set_self (nd_get_lt hO)))
/-- tape and faults anew -/
theorem cw_K.tp {h h2 : nd_H} (H : cw_K o nap ds gi dss S h) {b : List Nat} {fkd : Nat} {fp : Int32} {tf : Nat → Int32} (hlen : h2.length = h.length) (hf : ∀ a, a ≠ 0 → a ≠ 92 → h2[a]? = h[a]?) (h0 : ∃ x, cx_O h2 (nI b.length) (nI fkd) fp x) (h92 : h2[92]? = some (.inl (2, 900, .inl tf))) (htf : ∀ i, i < b.length → tf i = i_sb (b.getD i 0)) : cw_K o nap ds gi dss (S.1, S.2.1, S.2.2.1, b, fkd, fp) h2 := by
  have H0 := H
  obtain ⟨-, a2, ⟨c1, c2, c3, c4, c5⟩, a4, a5, a6, a7, a8, -, a11, a12⟩ := H
  have kf : ∀ a c, h[a]? = some c → a ≠ 0 → a ≠ 92 → h2[a]? = some c := fun a c e z1 z2 => (hf a z1 z2).trans e
  have ko : ∀ a c, h[a]? = some c → o a ≠ 0 → h2[a]? = some c := fun a c e z1 => kf a c e (by have := a12 a z1; omega) (by have := a12 a z1; omega)
  have hoo : ∀ a, o a ≠ 0 → o a = o a := fun _ _ => rfl
  refine ⟨h0, kf _ _ a2 (by omega) (by omega), ⟨c1.kp (fun a ha => (a12 a ha).1) hoo (fun a c z e => ko a c e (by omega)), c2.kp (fun i c hi hi2 e => kf _ c e (by omega) (by omega)), c3.kp (by omega) hoo (fun c e => kf _ c e (by omega) (by omega)) (fun a c z e => ko a c e (by omega)), c4, fun i hi => (c5 i hi).kp hoo (fun b c z e => ko b c e (by omega))⟩, kf _ _ a4 (by omega) (by omega), fun i hi => ?_, a6, kf _ _ a7 (by omega) (by omega), fun s hs => ?_, ⟨tf, h92, htf⟩, kf _ _ a11 (by omega) (by omega), fun a ha => by rw [hlen]; exact a12 a ha⟩
  · refine (a5 i hi).kp (fun a ha => (a12 a ha).1) hoo (fun a c e z => ?_)
    rcases z with z | z | ⟨b, -, z⟩
    · exact ko a c e (by omega)
    · exact ko a c e (by omega)
    · exact ko a c e (by omega)
  · refine (a8 s hs).kp hoo (fun a c e z => ?_)
    rcases z with z | z
    · exact kf a c e (by omega) (by omega)
    · exact ko a c e (by omega)
def sy_tp (S : sy_S) (b : List Nat) : sy_S := (S.1, S.2.1, S.2.2.1, b, S.2.2.2.2)
def fe_l (j : Nat) : Int32 := if j = 4 then -8 else nI (24 - 8 * j)
theorem fe_next {j : Nat} (h : j < 4) : nI (24 - 8 * j) + Int32.ofInt (-8) = fe_l (j + 1) := by
  obtain rfl | rfl | rfl | rfl : j = 0 ∨ j = 1 ∨ j = 2 ∨ j = 3 := by omega
  all_goals decide
theorem cx_four (hg : nd_OK g) {v : Int32} (hs : cw_S h) (hK : cw_K o nap ds gi dss S h) (hl : (sy_b S).length + 4 ≤ 900) (hk : ∀ h2, cw_S h2 → cw_K o nap ds gi dss (sy_tp S (sy_b S ++ (List.range 4).map (fe_b v))) h2 → cw_fr h h2 → K (.inl none) h2) : nd_M g mX1_four d 0 0 [.ref 0, .int v] h K := by
  refine nd_enter hg (by decide) rfl (Nat.le_of_ble_eq_true rfl) (fun X hC => ?_)
  refine nd_bipush hC (v := nI 24) (by rfl) dX1_four_0 ?_
  refine nd_istore_n hC dX1_four_2 (Nat.le_of_ble_eq_true rfl) ?_
  have LP : ∀ j, j ≤ 4 → ∀ h1, cw_S h1 → cw_K o nap ds gi dss (sy_tp S (sy_b S ++ (List.range j).map (fe_b v))) h1 → cw_fr h h1 → nd_W g mX1_four d 0 0 K X 3 [some (.ref 0), some (.int v), some (.int (fe_l j))] [] h1 0 0 := by
    refine nd_for _ _ ?_ ?_
    · intro h1 hs1 hK1 f1
      refine nd_iload_n hC dX1_four_3 rfl ?_
      refine nd_if_lt hC (tgt := 36) dX1_four_4 (by decide) (fun hq => ?_) (fun hq => absurd (by decide) hq)
      refine nd_return hC rfl (by omega) (by omega) dX1_four_36 ((hk h1 hs1 hK1 f1))
    · intro j hj ih h1 hs1 hK1 f1
      have ej : fe_l j = nI (24 - 8 * j) := by unfold fe_l; rw [if_neg (by omega)]
      rw [ej]
      have eln : (sy_b S ++ (List.range j).map (fe_b v)).length = (sy_b S).length + j := by rw [List.length_append, List.length_map, List.length_range]
      obtain ⟨⟨x1, hO1⟩, -, -, -, -, -, -, -, ⟨tf, a9, a10⟩, -, -⟩ := id hK1
      have hO1 : cx_O h1 (nI (sy_b S ++ (List.range j).map (fe_b v)).length) (nI (sy_fk S)) (sy_fp S) x1 := hO1
      rw [eln] at hO1
      have hO1' := hO1
      unfold cx_O at hO1'
      refine nd_iload_n hC dX1_four_3 rfl ?_
      refine nd_if_lt hC (tgt := 36) dX1_four_4 (by decide) (fun hq => ?_) (fun hq => ?_)
      · exfalso
        rw [Int32.lt_iff_toInt_lt, nI_toInt (by omega), Int32.toInt_zero] at hq
        omega
      refine nd_aload_n hC dX1_four_7 rfl rfl ?_
      refine nd_get (ci := nX1) hC in_X1 rfl hO1' 5 (by decide) q391 (fun _ z => z) rfl dX1_four_8 ?_
      refine nd_aload_n hC dX1_four_11 rfl rfl ?_
      refine nd_get (ci := nX1) hC in_X1 rfl hO1' 6 (by decide) q392 (fun _ z => z) rfl dX1_four_12 ?_
      refine nd_iload_n hC dX1_four_15 rfl ?_
      refine nd_iload_n hC dX1_four_16 rfl ?_
      refine nd_ishr hC dX1_four_17 ?_
      refine nd_i2b hC dX1_four_18 ?_
      refine nd_bastoreN hC a9 (by omega) (by omega) dX1_four_19 ?_
      rw [vp_nar_byte, i8_id, fe_sb hj]
      have hO2 : ∀ c, cx_O (h1.set 92 c) (nI ((sy_b S).length + j)) (nI (sy_fk S)) (sy_fp S) x1 := fun c => (List.getElem?_set_ne (by omega)).trans hO1
      have hO2' := hO2 (.inl (2, 900, .inl (upd tf ((sy_b S).length + j) (i_sb (fe_b v j)))))
      have hO3' := hO2'
      unfold cx_O at hO3'
      refine nd_aload_n hC dX1_four_20 rfl rfl ?_
      refine nd_dup hC (by rfl) dX1_four_21 ?_
      refine nd_get (ci := nX1) hC in_X1 rfl hO3' 6 (by decide) q392 (fun _ z => z) rfl dX1_four_22 ?_
      refine nd_iconst hC (v := nI 1) (by rfl) dX1_four_25 ?_
      first | with_reducible refine nd_iaddN hC dX1_four_26 ?_ | refine nd_iadd hC dX1_four_26 ?_
      refine cx_putT hC hO2' rfl dX1_four_27 (fun h3 f3 hO3 => ?_)
      refine nd_iinc hC dX1_four_30 rfl (fe_next hj) (Nat.le_of_ble_eq_true rfl) ?_
      refine nd_goto hC (tgt := 3) dX1_four_33 (by decide) ?_
      have e92 : h3[92]? = some (.inl (2, 900, .inl (upd tf ((sy_b S).length + j) (i_sb (fe_b v j))))) := (f3.2 92 (by omega)).trans (List.getElem?_set_self (nd_get_lt a9))
      have kf : ∀ a, a ≠ 0 → a ≠ 92 → h3[a]? = h1[a]? := fun a z1 z2 => (f3.2 a z1).trans (List.getElem?_set_ne (Ne.symm z2))
      have er : sy_b S ++ (List.range (j + 1)).map (fe_b v) = (sy_b S ++ (List.range j).map (fe_b v)) ++ [fe_b v j] := by
        rw [List.range_succ, List.map_append, List.append_assoc]; rfl
      refine ih h3 (hs1.kp (fun a ha => kf a (by unfold cw_sc at ha; omega) (by unfold cw_sc at ha; omega))) ?_ (f1.trans ⟨by rw [f3.1, List.length_set]; exact Nat.le_refl _, fun a z1 z2 => kf a (by omega) (by omega)⟩)
      rw [er]
      refine hK1.tp (by rw [f3.1, List.length_set]) kf ⟨x1, ?_⟩ e92 (fun i hi => ?_)
      · rw [List.length_append, eln]; exact hO3
      · rw [List.length_append, eln] at hi
        have hi : i < (sy_b S).length + j + 1 := hi
        rw [gd_app (by rw [eln]; exact hi), eln]
        by_cases z : i = (sy_b S).length + j
        · rw [z, upd_s, if_pos rfl]
        · rw [upd_n z, if_neg z]
          exact a10 i (by show i < (sy_b S ++ (List.range j).map (fe_b v)).length; omega)
  exact LP 0 (Nat.zero_le _) h hs (by rw [show (List.range 0).map (fe_b v) = [] from rfl, List.append_nil]; exact hK) cw_fr.rfl
theorem cp_feed (hg : nd_OK g) (hd : 6 ≤ d) (p q2 r2 s2 t2 : Int32) : cp_ok g mX1_feed d 2 12 [.int p, .int q2, .int r2, .int s2, .int t2] (ex1 eIAE) (mp_i (op_feed p q2 r2 s2 t2)) := by
  intro S h K hS hI hl123 hk0 hk1
  obtain ⟨hs, o, nap, ds, gi, dss, hK⟩ := hI
  obtain ⟨⟨x0, hO⟩, h17, hkk, -⟩ := id hK
  unfold cx_O at hO
  have hok := sy_l_ok hS
  have hwd := lk_width hok
  have hn : sy_n S ≤ 6 := hS.1.1.1
  have h5 := sy_len5 hS
  obtain ⟨sfr, sbk, sfo, smn, hSt, hcv⟩ := id hkk.2.1
  obtain ⟨hSt1, hSt2, hSt3, hSt4⟩ := id hSt
  have hcv : cs_v sfr sbk sfo smn (sy_c S) := hcv
  have hsv : sv_ok (sy_n S) (sy_c S) := hS.1.2.1
  unfold mp_i op_feed at hk0 hk1
  have h900 : (sy_b S).length ≤ 900 := hS.2.2.2.1
  refine nd_enter hg (by decide) rfl (Nat.le_of_ble_eq_true rfl) (fun X hC => ?_)
  refine nd_aload_n hC dX1_feed_0 rfl rfl ?_
  refine nd_get (ci := nX1) hC in_X1 rfl hO 6 (by decide) q392 (fun _ z => z) rfl dX1_feed_1 ?_
  refine nd_bipush hC (v := nI 20) (by rfl) dX1_feed_4 ?_
  first | with_reducible refine nd_iaddN hC dX1_feed_6 ?_ | refine nd_iadd hC dX1_feed_6 ?_
  refine nd_sipush hC (v := nI 900) (by rfl) dX1_feed_7 ?_
  first | with_reducible refine nd_icmp_leN hC (tgt := 15) (by omega) (by omega) dX1_feed_10 (by decide) (fun hq => ?_) (fun hq => ?_) | refine nd_icmp_le hC (tgt := 15) dX1_feed_10 (by decide) (fun hq => ?_) (fun hq => ?_)
  · rw [if_neg (by omega)] at hk0
    refine nd_aload_n hC dX1_feed_15 rfl rfl ?_
    refine nd_iload_n hC dX1_feed_16 rfl ?_
    refine nd_callV (mm2 := mX1_four) (As := [_]) (mc2 := 0) (ms2 := 0) (d2 := d - 1) hC rfl lkX1_102 ⟨rfl, lmX1_four⟩ (hO) rfl (Nat.le_of_ble_eq_true rfl) (by omega) rfl (by exact Nat.le_of_ble_eq_true rfl) (by omega) (by omega) dX1_feed_17 rfl ((cx_four (S := S) hg hs hK (by omega) ?_))
    intro h1 hs1 hK1 f1
    obtain ⟨⟨y1, hO1⟩, -⟩ := id hK1
    unfold cx_O at hO1
    have e1 : (sy_b (sy_tp (S) (sy_b (S) ++ (List.range 4).map (fe_b p)))).length = (sy_b S).length + 4 := by
      show (sy_b (S) ++ (List.range 4).map (fe_b p)).length = _
      rw [List.length_append]; rfl
    refine nd_aload_n hC dX1_feed_20 rfl rfl ?_
    refine nd_iload_n hC dX1_feed_21 rfl ?_
    refine nd_callV (mm2 := mX1_four) (As := [_]) (mc2 := 0) (ms2 := 0) (d2 := d - 1) hC rfl lkX1_102 ⟨rfl, lmX1_four⟩ (hO1) rfl (Nat.le_of_ble_eq_true rfl) (by omega) rfl (by exact Nat.le_of_ble_eq_true rfl) (by omega) (by omega) dX1_feed_22 rfl ((cx_four (S := (sy_tp S (sy_b S ++ (List.range 4).map (fe_b p)))) hg hs1 hK1 (by rw [e1]; omega) ?_))
    intro h2 hs2 hK2 f2
    obtain ⟨⟨y2, hO2⟩, -⟩ := id hK2
    unfold cx_O at hO2
    have e2 : (sy_b (sy_tp ((sy_tp S (sy_b S ++ (List.range 4).map (fe_b p)))) (sy_b ((sy_tp S (sy_b S ++ (List.range 4).map (fe_b p)))) ++ (List.range 4).map (fe_b q2)))).length = (sy_b S).length + 8 := by
      show (sy_b ((sy_tp S (sy_b S ++ (List.range 4).map (fe_b p)))) ++ (List.range 4).map (fe_b q2)).length = _
      rw [List.length_append, e1]; rfl
    refine nd_aload_n hC dX1_feed_25 rfl rfl ?_
    refine nd_iload_n hC dX1_feed_26 rfl ?_
    refine nd_callV (mm2 := mX1_four) (As := [_]) (mc2 := 0) (ms2 := 0) (d2 := d - 1) hC rfl lkX1_102 ⟨rfl, lmX1_four⟩ (hO2) rfl (Nat.le_of_ble_eq_true rfl) (by omega) rfl (by exact Nat.le_of_ble_eq_true rfl) (by omega) (by omega) dX1_feed_27 rfl ((cx_four (S := (sy_tp (sy_tp S (sy_b S ++ (List.range 4).map (fe_b p))) (sy_b (sy_tp S (sy_b S ++ (List.range 4).map (fe_b p))) ++ (List.range 4).map (fe_b q2)))) hg hs2 hK2 (by rw [e2]; omega) ?_))
    intro h3 hs3 hK3 f3
    obtain ⟨⟨y3, hO3⟩, -⟩ := id hK3
    unfold cx_O at hO3
    have e3 : (sy_b (sy_tp ((sy_tp (sy_tp S (sy_b S ++ (List.range 4).map (fe_b p))) (sy_b (sy_tp S (sy_b S ++ (List.range 4).map (fe_b p))) ++ (List.range 4).map (fe_b q2)))) (sy_b ((sy_tp (sy_tp S (sy_b S ++ (List.range 4).map (fe_b p))) (sy_b (sy_tp S (sy_b S ++ (List.range 4).map (fe_b p))) ++ (List.range 4).map (fe_b q2)))) ++ (List.range 4).map (fe_b r2)))).length = (sy_b S).length + 12 := by
      show (sy_b ((sy_tp (sy_tp S (sy_b S ++ (List.range 4).map (fe_b p))) (sy_b (sy_tp S (sy_b S ++ (List.range 4).map (fe_b p))) ++ (List.range 4).map (fe_b q2)))) ++ (List.range 4).map (fe_b r2)).length = _
      rw [List.length_append, e2]; rfl
    refine nd_aload_n hC dX1_feed_30 rfl rfl ?_
    refine nd_iload hC dX1_feed_31 rfl ?_
    refine nd_callV (mm2 := mX1_four) (As := [_]) (mc2 := 0) (ms2 := 0) (d2 := d - 1) hC rfl lkX1_102 ⟨rfl, lmX1_four⟩ (hO3) rfl (Nat.le_of_ble_eq_true rfl) (by omega) rfl (by exact Nat.le_of_ble_eq_true rfl) (by omega) (by omega) dX1_feed_33 rfl ((cx_four (S := (sy_tp (sy_tp (sy_tp S (sy_b S ++ (List.range 4).map (fe_b p))) (sy_b (sy_tp S (sy_b S ++ (List.range 4).map (fe_b p))) ++ (List.range 4).map (fe_b q2))) (sy_b (sy_tp (sy_tp S (sy_b S ++ (List.range 4).map (fe_b p))) (sy_b (sy_tp S (sy_b S ++ (List.range 4).map (fe_b p))) ++ (List.range 4).map (fe_b q2))) ++ (List.range 4).map (fe_b r2)))) hg hs3 hK3 (by rw [e3]; omega) ?_))
    intro h4 hs4 hK4 f4
    obtain ⟨⟨y4, hO4⟩, -⟩ := id hK4
    unfold cx_O at hO4
    have e4 : (sy_b (sy_tp ((sy_tp (sy_tp (sy_tp S (sy_b S ++ (List.range 4).map (fe_b p))) (sy_b (sy_tp S (sy_b S ++ (List.range 4).map (fe_b p))) ++ (List.range 4).map (fe_b q2))) (sy_b (sy_tp (sy_tp S (sy_b S ++ (List.range 4).map (fe_b p))) (sy_b (sy_tp S (sy_b S ++ (List.range 4).map (fe_b p))) ++ (List.range 4).map (fe_b q2))) ++ (List.range 4).map (fe_b r2)))) (sy_b ((sy_tp (sy_tp (sy_tp S (sy_b S ++ (List.range 4).map (fe_b p))) (sy_b (sy_tp S (sy_b S ++ (List.range 4).map (fe_b p))) ++ (List.range 4).map (fe_b q2))) (sy_b (sy_tp (sy_tp S (sy_b S ++ (List.range 4).map (fe_b p))) (sy_b (sy_tp S (sy_b S ++ (List.range 4).map (fe_b p))) ++ (List.range 4).map (fe_b q2))) ++ (List.range 4).map (fe_b r2)))) ++ (List.range 4).map (fe_b s2)))).length = (sy_b S).length + 16 := by
      show (sy_b ((sy_tp (sy_tp (sy_tp S (sy_b S ++ (List.range 4).map (fe_b p))) (sy_b (sy_tp S (sy_b S ++ (List.range 4).map (fe_b p))) ++ (List.range 4).map (fe_b q2))) (sy_b (sy_tp (sy_tp S (sy_b S ++ (List.range 4).map (fe_b p))) (sy_b (sy_tp S (sy_b S ++ (List.range 4).map (fe_b p))) ++ (List.range 4).map (fe_b q2))) ++ (List.range 4).map (fe_b r2)))) ++ (List.range 4).map (fe_b s2)).length = _
      rw [List.length_append, e3]; rfl
    refine nd_aload_n hC dX1_feed_36 rfl rfl ?_
    refine nd_iload hC dX1_feed_37 rfl ?_
    refine nd_callV (mm2 := mX1_four) (As := [_]) (mc2 := 0) (ms2 := 0) (d2 := d - 1) hC rfl lkX1_102 ⟨rfl, lmX1_four⟩ (hO4) rfl (Nat.le_of_ble_eq_true rfl) (by omega) rfl (by exact Nat.le_of_ble_eq_true rfl) (by omega) (by omega) dX1_feed_39 rfl ((cx_four (S := (sy_tp (sy_tp (sy_tp (sy_tp S (sy_b S ++ (List.range 4).map (fe_b p))) (sy_b (sy_tp S (sy_b S ++ (List.range 4).map (fe_b p))) ++ (List.range 4).map (fe_b q2))) (sy_b (sy_tp (sy_tp S (sy_b S ++ (List.range 4).map (fe_b p))) (sy_b (sy_tp S (sy_b S ++ (List.range 4).map (fe_b p))) ++ (List.range 4).map (fe_b q2))) ++ (List.range 4).map (fe_b r2))) (sy_b (sy_tp (sy_tp (sy_tp S (sy_b S ++ (List.range 4).map (fe_b p))) (sy_b (sy_tp S (sy_b S ++ (List.range 4).map (fe_b p))) ++ (List.range 4).map (fe_b q2))) (sy_b (sy_tp (sy_tp S (sy_b S ++ (List.range 4).map (fe_b p))) (sy_b (sy_tp S (sy_b S ++ (List.range 4).map (fe_b p))) ++ (List.range 4).map (fe_b q2))) ++ (List.range 4).map (fe_b r2))) ++ (List.range 4).map (fe_b s2)))) hg hs4 hK4 (by rw [e4]; omega) ?_))
    intro h5 hs5 hK5 f5
    obtain ⟨⟨y5, hO5⟩, -⟩ := id hK5
    unfold cx_O at hO5
    have e5 : (sy_b (sy_tp ((sy_tp (sy_tp (sy_tp (sy_tp S (sy_b S ++ (List.range 4).map (fe_b p))) (sy_b (sy_tp S (sy_b S ++ (List.range 4).map (fe_b p))) ++ (List.range 4).map (fe_b q2))) (sy_b (sy_tp (sy_tp S (sy_b S ++ (List.range 4).map (fe_b p))) (sy_b (sy_tp S (sy_b S ++ (List.range 4).map (fe_b p))) ++ (List.range 4).map (fe_b q2))) ++ (List.range 4).map (fe_b r2))) (sy_b (sy_tp (sy_tp (sy_tp S (sy_b S ++ (List.range 4).map (fe_b p))) (sy_b (sy_tp S (sy_b S ++ (List.range 4).map (fe_b p))) ++ (List.range 4).map (fe_b q2))) (sy_b (sy_tp (sy_tp S (sy_b S ++ (List.range 4).map (fe_b p))) (sy_b (sy_tp S (sy_b S ++ (List.range 4).map (fe_b p))) ++ (List.range 4).map (fe_b q2))) ++ (List.range 4).map (fe_b r2))) ++ (List.range 4).map (fe_b s2)))) (sy_b ((sy_tp (sy_tp (sy_tp (sy_tp S (sy_b S ++ (List.range 4).map (fe_b p))) (sy_b (sy_tp S (sy_b S ++ (List.range 4).map (fe_b p))) ++ (List.range 4).map (fe_b q2))) (sy_b (sy_tp (sy_tp S (sy_b S ++ (List.range 4).map (fe_b p))) (sy_b (sy_tp S (sy_b S ++ (List.range 4).map (fe_b p))) ++ (List.range 4).map (fe_b q2))) ++ (List.range 4).map (fe_b r2))) (sy_b (sy_tp (sy_tp (sy_tp S (sy_b S ++ (List.range 4).map (fe_b p))) (sy_b (sy_tp S (sy_b S ++ (List.range 4).map (fe_b p))) ++ (List.range 4).map (fe_b q2))) (sy_b (sy_tp (sy_tp S (sy_b S ++ (List.range 4).map (fe_b p))) (sy_b (sy_tp S (sy_b S ++ (List.range 4).map (fe_b p))) ++ (List.range 4).map (fe_b q2))) ++ (List.range 4).map (fe_b r2))) ++ (List.range 4).map (fe_b s2)))) ++ (List.range 4).map (fe_b t2)))).length = (sy_b S).length + 20 := by
      show (sy_b ((sy_tp (sy_tp (sy_tp (sy_tp S (sy_b S ++ (List.range 4).map (fe_b p))) (sy_b (sy_tp S (sy_b S ++ (List.range 4).map (fe_b p))) ++ (List.range 4).map (fe_b q2))) (sy_b (sy_tp (sy_tp S (sy_b S ++ (List.range 4).map (fe_b p))) (sy_b (sy_tp S (sy_b S ++ (List.range 4).map (fe_b p))) ++ (List.range 4).map (fe_b q2))) ++ (List.range 4).map (fe_b r2))) (sy_b (sy_tp (sy_tp (sy_tp S (sy_b S ++ (List.range 4).map (fe_b p))) (sy_b (sy_tp S (sy_b S ++ (List.range 4).map (fe_b p))) ++ (List.range 4).map (fe_b q2))) (sy_b (sy_tp (sy_tp S (sy_b S ++ (List.range 4).map (fe_b p))) (sy_b (sy_tp S (sy_b S ++ (List.range 4).map (fe_b p))) ++ (List.range 4).map (fe_b q2))) ++ (List.range 4).map (fe_b r2))) ++ (List.range 4).map (fe_b s2)))) ++ (List.range 4).map (fe_b t2)).length = _
      rw [List.length_append, e4]; rfl
    rw [e5] at hO5
    refine nd_aload_n hC dX1_feed_42 rfl rfl ?_
    refine nd_get (ci := nX1) hC in_X1 rfl hO5 6 (by decide) q392 (fun _ z => z) rfl dX1_feed_43 ?_
    refine nd_ireturn hC rfl (by first | rfl | exact nd_b_nar _) (by omega) (by omega) dX1_feed_46 (hk0 rfl h5 ⟨hs5, o, nap, ds, gi, dss, ?_⟩ (f1.trans (f2.trans (f3.trans (f4.trans f5)))))
    have eb : sy_b S ++ (List.range 20).map (fe_at p q2 r2 s2 t2) = ((((sy_b S ++ (List.range 4).map (fe_b p)) ++ (List.range 4).map (fe_b q2)) ++ (List.range 4).map (fe_b r2)) ++ (List.range 4).map (fe_b s2)) ++ (List.range 4).map (fe_b t2) := by
      rw [List.append_assoc, List.append_assoc, List.append_assoc, List.append_assoc]; rfl
    show cw_K o nap ds gi dss (S.1, S.2.1, S.2.2.1, sy_b S ++ (List.range 20).map (fe_at p q2 r2 s2 t2), S.2.2.2.2) h5
    rw [eb]
    exact hK5
  · rw [if_pos (by omega)] at hk0
    refine nd_iconst hC (v := -1) (by rfl) dX1_feed_13 ?_
    refine nd_ireturn hC rfl (by first | rfl | exact nd_b_nar _) (by omega) (by omega) dX1_feed_14 ((hk0 rfl h ⟨hs, o, nap, ds, gi, dss, hK⟩ cw_fr.rfl))
end CP83

