set_option maxRecDepth 100000
/-! ===== tray, write, copy ===== -/
section CP86
variable {g : nd_G} {d : Nat} {K : nd_K} {h : nd_H} {o : Nat → Nat} {nap : Nat} {ds : List Nat} {gi : Nat → Value} {dss : Nat → List Nat} {S : sy_S}
theorem cw_S.tray {h : nd_H} (H : cw_S h) {t : Nat} {c : nd_C} (ht : t < 4) : cw_S (h.set (96 + t) c) := H.kp (fun a ha => List.getElem?_set_ne (by unfold cw_sc at ha; omega))
theorem ty_cw (hK : cw_K o nap ds gi dss S h) {t : Nat} (ht : t < 4) : ∃ x0, h[96 + t]? = some (.inr (nX6, [x0])) := by
  obtain ⟨-, -, -, -, -, -, -, a8, -, -, -⟩ := hK
  have M := a8 t ht
  unfold cw_ty at M
  cases e : sy_t S t with
  | none => rw [e] at M; exact ⟨_, M⟩
  | some q => rw [e] at M; obtain ⟨b, -, -, b3, -⟩ := M; exact ⟨_, b3⟩
theorem ty_cw2 (hK : cw_K o nap ds gi dss S h) {t : Nat} (ht : t < 4) {q : Nat × List Int64} (e : sy_t S t = some q) : ∃ b, o b = 4 + t ∧ 123 ≤ b ∧ h[96 + t]? = some (.inr (nX6, [.ref b])) ∧ ty_rw h b q := by
  obtain ⟨-, -, -, -, -, -, -, a8, -, -, -⟩ := hK
  have M := a8 t ht
  unfold cw_ty at M
  rw [e] at M
  exact M
theorem cp_tray (hg : nd_OK g) (hd : 8 ≤ d) (x : Int32) (y : Int32) (z : Int32) : cp_ok g mX1_tray d 8 130 [.int x, .int y, .int z] (ex2 eNSE eIAE) (mp_v (op_tray x y z)) := by
  intro S h K hS hI hl123 hk0 hk1
  obtain ⟨hs, o, nap, ds, gi, dss, hK⟩ := hI
  obtain ⟨⟨x0, hO⟩, h17, hkk, -⟩ := id hK
  unfold cx_O at hO
  have hok := sy_l_ok hS
  have hwd := lk_width hok
  have hn : sy_n S ≤ 6 := hS.1.1.1
  have h5 := sy_len5 hS
  obtain ⟨sfr, sbk, sfo, smn, hSt, hcv⟩ := id hkk.2.1
  obtain ⟨hSt1, hSt2, hSt3, hSt4⟩ := id hSt
  have hcv : cs_v sfr sbk sfo smn (sy_c S) := hcv
  have hsv : sv_ok (sy_n S) (sy_c S) := hS.1.2.1
  unfold mp_v op_tray at hk0 hk1
  have JB : ¬ ((op_in y 0 3 && op_in z 0 30) = true) → op_in x 0 3 = true → ∀ X, nd_Cx g mX1_tray X → ∀ h2 cs ss k, cs ≤ 4 → ss ≤ 60 → cw_I S h2 → cw_fr h h2 → ∀ pc lv, (∀ w ∈ tableOf [(33, 40, 43, 530)], covers w pc = false) → nd_T g mX1_tray d 8 130 K X pc lv eIAE k h2 cs ss := by
    intro hb hc X hC h2 cs ss k h4 h60 hI2 f2 pc lv hno
    rw [if_pos hc, if_neg hb] at hk1
    exact nd_outH hC rfl hno (by omega) (by omega) (hk1 (Nat.succ_ne_zero _) _ _ hI2 f2)
  have hI0 : ∀ n, cw_I S (h ++ List.replicate n nd_J) := fun n => ⟨hs.app, o, nap, ds, gi, dss, hK.f cw_f.rfl.app⟩
  have hF0 : ∀ n, cw_fr h (h ++ List.replicate n nd_J) := fun n => cw_f.rfl.app.fr hl123
  refine nd_enterH _ hg (by decide) rfl (Nat.le_of_ble_eq_true rfl) (fun X hC => ?_)
  refine nd_aload_n hC dX1_tray_0 rfl rfl ?_
  refine nd_iload_n hC dX1_tray_1 rfl ?_
  refine nd_callV (mm2 := mX1_trayOf) (As := [_]) (mc2 := 1) (ms2 := 6) (d2 := d - 1) hC rfl lkX1_332 ⟨rfl, lmX1_trayOf⟩ (hO) rfl (Nat.le_of_ble_eq_true rfl) (by omega) rfl (by exact Nat.le_of_ble_eq_true rfl) (by omega) (by omega) dX1_tray_2 rfl ((cx_trayOf hg (by omega) hK (fun hc t ht hx => ?_) (fun hc n => ?_)))
  rotate_left
  · rw [if_neg (by rw [hc]; decide)] at hk1
    exact nd_outH hC rfl (by decide) (by omega) (by omega) (hk1 (Nat.succ_ne_zero _) _ _ ⟨hs.app, o, nap, ds, gi, dss, hK.f cw_f.rfl.app⟩ (cw_f.rfl.app.fr hl123))
  obtain ⟨x0', hT0⟩ := ty_cw hK ht
  refine nd_astore hC dX1_tray_5 (Nat.le_of_ble_eq_true rfl) rfl ?_
  refine nd_iload_n hC dX1_tray_7 rfl ?_
  first | with_reducible refine nd_i2lN hC (by omega) dX1_tray_8 ?_ | refine nd_i2l hC dX1_tray_8 ?_
  refine nd_lconst hC (v := lN 0) (by rfl) dX1_tray_9 ?_
  refine nd_ldc2 hC q632 dX1_tray_10 ?_
  refine nd_v_eq (y := .long (lN 3)) (by rfl) ?_
  refine nd_callS (mm2 := mX1_isIn) (As := [_, _, _]) (mc2 := 0) (ms2 := 0) (d2 := d - 1) hC rfl lkX1_106 lmX1_isIn (Nat.le_of_ble_eq_true rfl) (by omega) rfl (by exact Nat.le_of_ble_eq_true rfl) (by omega) (by omega) dX1_tray_13 rfl ((ci_isIn hg ?_))
  have e : (decide (lN 0 ≤ y.toInt64) && decide (y.toInt64 ≤ lN 3)) = op_in y 0 3 := by
    unfold op_in
    rw [Bool.eq_iff_iff, Bool.and_eq_true, nd_lle, nd_lle, nd_tl, lN_toInt (by decide), lN_toInt (by decide), decide_eq_true_iff]
    omega
  rw [e]
  have JN : ¬ (op_in y 0 3 = true ∧ z.toInt ≤ 30) → nd_W g mX1_tray d 8 130 K X 29 [some (.ref 0), some (.int x), some (.int y), some (.int z), some (.ref (96 + t)), none] [] h (0 + 1) (0 + 6) := by
    intro hn
    refine nd_iconst hC (v := nI 0) (by rfl) dX1_tray_29 ?_
    refine nd_v_eq (y := .int (nd_b false)) (by rfl) ?_
    refine nd_callS (mm2 := mX1_needs) (As := [_]) (mc2 := 1) (ms2 := 6) (d2 := d - 1) hC rfl lkX1_110 lmX1_needs (Nat.le_of_ble_eq_true rfl) (by omega) rfl (by exact Nat.le_of_ble_eq_true rfl) (by omega) (by omega) dX1_tray_30 rfl ((ci_needs hg (fun hc => nomatch hc) (fun _ n => ?_)))
    refine JB ?_ hc X hC _ _ _ _ (by omega) (by omega) (hI0 _) (hF0 _) _ _ (by decide)
    intro q
    rw [Bool.and_eq_true] at q
    refine hn ⟨q.1, ?_⟩
    have q2 := q.2
    unfold op_in at q2
    rw [decide_eq_true_iff] at q2
    exact q2.2
  first | with_reducible refine nd_if_eqB hC (tgt := 29) dX1_tray_16 (by decide) (fun hc2 => ?_) (fun hc2 => ?_) | with_reducible refine nd_if_eqN hC (tgt := 29) (by omega) dX1_tray_16 (by decide) (fun hc2 => ?_) (fun hc2 => ?_) | refine nd_if_eq hC (tgt := 29) dX1_tray_16 (by decide) (fun hc2 => ?_) (fun hc2 => ?_)
  · exact JN (fun q => absurd q.1 (by rw [hc2]; decide))
  obtain ⟨so, hso, rfl⟩ := op_in_nat hc2
  refine nd_iload_n hC dX1_tray_19 rfl ?_
  refine nd_bipush hC (v := nI 30) (by rfl) dX1_tray_20 ?_
  refine nd_icmp_gt hC (tgt := 29) dX1_tray_22 (by decide) (fun hq => ?_) (fun hq => ?_)
  · exact JN (fun q => by rw [Int32.lt_iff_toInt_lt, nI_toInt (by decide)] at hq; omega)
  have hz30 : z.toInt ≤ 30 := by rw [Int32.lt_iff_toInt_lt, nI_toInt (by decide)] at hq; omega
  refine nd_iconst hC (v := nI 1) (by rfl) dX1_tray_25 ?_
  refine nd_goto hC (tgt := 30) dX1_tray_26 (by decide) ?_
  refine nd_v_eq (y := .int (nd_b true)) (by rfl) ?_
  refine nd_callS (mm2 := mX1_needs) (As := [_]) (mc2 := 1) (ms2 := 6) (d2 := d - 1) hC rfl lkX1_110 lmX1_needs (Nat.le_of_ble_eq_true rfl) (by omega) rfl (by exact Nat.le_of_ble_eq_true rfl) (by omega) (by omega) dX1_tray_30 rfl ((ci_needs hg (fun _ => ?_) (fun hc n => nomatch hc)))
  refine nd_aload hC dX1_tray_33 rfl rfl ?_
  refine nd_iload_n hC dX1_tray_35 rfl ?_
  refine nd_iload_n hC dX1_tray_36 rfl ?_
  refine nd_callV (mm2 := mX6_make) (As := [_, _]) (mc2 := 3) (ms2 := 54) (d2 := d - 1) hC rfl lkX1_527 ⟨rfl, lmX6_make⟩ (hT0) rfl (Nat.le_of_ble_eq_true rfl) (by omega) rfl (by exact Nat.le_of_ble_eq_true rfl) (by omega) (by omega) dX1_tray_37 rfl ((ty_make hg (by omega) hz30 hT0 (fun n c hz hn hw => ?_) (fun hz m k => ?_)))
  · subst hz
    have hzi : op_in (nI n) 0 30 = true := by unfold op_in; rw [nI_toInt (by omega)]; exact decide_eq_true (by omega)
    rw [if_pos hc, if_pos (by rw [hc2, hzi]; rfl), hx, nI_cl (by omega), nI_cl (by omega), nI_cl (by omega)] at hk0
    have L : ∀ c2 : nd_C, ((h ++ [c]).set (96 + t) c2).length = h.length + 1 := fun c2 => by rw [List.length_set, List.length_append]; rfl
    obtain ⟨-, -, -, -, -, -, -, -, -, -, a12⟩ := id hK
    have hK2 : cw_K (ow o h.length 1 (4 + t)) nap ds gi dss (sy_tr S t (so, List.replicate n 0)) ((h ++ [c]).set (96 + t) (.inr (nX6, [.ref h.length]))) := by
      refine hK.tr ht (fun a ha => ?_) (fun a ha => ?_) (fun a c e z1 z2 => ?_) ⟨h.length, ?_, hl123, List.getElem?_set_self (by rw [List.length_append]; omega), hw⟩
      · have := a12 a ha
        unfold ow
        rw [if_neg (by omega)]
      · rw [L]
        unfold ow at ha
        by_cases z : h.length ≤ a ∧ a < h.length + 1
        · omega
        · rw [if_neg z] at ha
          have := a12 a ha
          omega
      · rw [List.getElem?_set_ne (Ne.symm z1), List.getElem?_append_left (nd_get_lt e)]; exact e
      · unfold ow; rw [if_pos (by omega)]
    refine nd_goto hC (tgt := 53) dX1_tray_40 (by decide) ?_
    refine nd_return hC rfl (by omega) (by omega) dX1_tray_53 ((hk0 rfl _ ⟨hs.app.tray ht, _, nap, ds, gi, dss, hK2⟩ ⟨by rw [L]; omega, fun a z1 z2 => by rw [List.getElem?_set_ne (by omega), List.getElem?_append_left (by omega)]⟩))
  · refine nd_catch hC "java/lang/NegativeArraySizeException" [] (33, 40, 43, 530) [] rfl rfl (fun z hz => nomatch hz) (by decide) (by decide) q2551 q1185 ?_
    refine nd_astore hC dX1_tray_43 (Nat.le_of_ble_eq_true rfl) rfl ?_
    refine nd_throw0 hC (by decide +kernel) (by decide +kernel) q1538 q162 (xa_iae hC) (by decide +kernel) (by decide) (by exact Nat.le_of_ble_eq_true rfl) dX1_tray_45 dX1_tray_48 dX1_tray_49 dX1_tray_52 (by omega) (by omega) (fun n => ?_)
    have hb : ¬ ((op_in (nI so) 0 3 && op_in z 0 30) = true) := by
      rw [Bool.and_eq_true]
      intro q
      have q2 := q.2
      unfold op_in at q2
      rw [decide_eq_true_iff] at q2
      rw [Int32.lt_iff_toInt_lt, Int32.toInt_zero] at hz
      omega
    rw [if_pos hc, if_neg hb] at hk1
    rw [List.append_assoc, List.replicate_append_replicate]
    exact nd_outH hC rfl (by decide) (by omega) (by omega) (hk1 (Nat.succ_ne_zero _) _ _ (hI0 _) (hF0 _))
theorem cp_write (hg : nd_OK g) (hd : 8 ≤ d) (x : Int32) (y : Int32) (v : Int64) : cp_ok g mX1_write d 8 300 [.int x, .int y, .long v] (ex3 eNSE eISE eIOB) (mp_j (op_write x y v)) := by
  intro S h K hS hI hl123 hk0 hk1
  obtain ⟨hs, o, nap, ds, gi, dss, hK⟩ := hI
  obtain ⟨⟨x0, hO⟩, h17, hkk, -⟩ := id hK
  unfold cx_O at hO
  have hok := sy_l_ok hS
  have hwd := lk_width hok
  have hn : sy_n S ≤ 6 := hS.1.1.1
  have h5 := sy_len5 hS
  obtain ⟨sfr, sbk, sfo, smn, hSt, hcv⟩ := id hkk.2.1
  obtain ⟨hSt1, hSt2, hSt3, hSt4⟩ := id hSt
  have hcv : cs_v sfr sbk sfo smn (sy_c S) := hcv
  have hsv : sv_ok (sy_n S) (sy_c S) := hS.1.2.1
  unfold mp_j op_write at hk0 hk1
  have hI0 : ∀ n, cw_I S (h ++ List.replicate n nd_J) := fun n => ⟨hs.app, o, nap, ds, gi, dss, hK.f cw_f.rfl.app⟩
  have hF0 : ∀ n, cw_fr h (h ++ List.replicate n nd_J) := fun n => cw_f.rfl.app.fr hl123
  refine nd_enterH _ hg (by decide) rfl (Nat.le_of_ble_eq_true rfl) (fun X hC => ?_)
  refine nd_aload_n hC dX1_write_0 rfl rfl ?_
  refine nd_iload_n hC dX1_write_1 rfl ?_
  refine nd_callV (mm2 := mX1_trayOf) (As := [_]) (mc2 := 1) (ms2 := 6) (d2 := d - 1) hC rfl lkX1_332 ⟨rfl, lmX1_trayOf⟩ (hO) rfl (Nat.le_of_ble_eq_true rfl) (by omega) rfl (by exact Nat.le_of_ble_eq_true rfl) (by omega) (by omega) dX1_write_2 rfl ((cx_trayOf hg (by omega) hK (fun hc t ht hx => ?_) (fun hc n => ?_)))
  rotate_left
  · rw [ty_f1 hc, if_neg (by decide)] at hk1
    exact nd_outH hC rfl (by decide) (by omega) (by omega) (hk1 (Nat.succ_ne_zero _) _ _ (hI0 _) (hF0 _))
  rcases ty_cases hK hc ht hx with ⟨z, z2⟩ | ⟨q, b0, z1, z2, z3, z4, -, -⟩
  · rw [z, if_neg (by decide)] at hk1
    refine nd_astore hC dX1_write_5 (Nat.le_of_ble_eq_true rfl) rfl ?_
    refine nd_aload hC dX1_write_7 rfl rfl ?_
    refine nd_iload_n hC dX1_write_9 rfl ?_
    refine nd_lload_n hC dX1_write_10 rfl ?_
    refine nd_callV (mm2 := mX6_put) (As := [_, _]) (mc2 := 3) (ms2 := 222) (d2 := d - 1) hC rfl lkX1_532 ⟨rfl, lmX6_put⟩ (z2) rfl (Nat.le_of_ble_eq_true rfl) (by omega) rfl (by exact Nat.le_of_ble_eq_true rfl) (by omega) (by omega) dX1_write_11 rfl ((ty_putN hg z2 (fun n k => ?_)))
    refine nd_catch hC "java/lang/NullPointerException" [] (7, 20, 21, 536) [(7, 20, 31, 538)] rfl rfl (fun z hz => nomatch hz) (by decide) (by decide) q2570 q2586 ?_
    refine nd_astore hC dX1_write_21 (Nat.le_of_ble_eq_true rfl) rfl ?_
    refine nd_throw0 hC (by decide +kernel) (by decide +kernel) q2028 q189 (xa_ise hC) (by decide +kernel) (by decide) (by exact Nat.le_of_ble_eq_true rfl) dX1_write_23 dX1_write_26 dX1_write_27 dX1_write_30 (by omega) (by omega) (fun n => ?_)
    rw [List.append_assoc, List.replicate_append_replicate]
    exact nd_outH hC rfl (by decide) (by omega) (by omega) (hk1 (Nat.succ_ne_zero _) _ _ (hI0 _) (hF0 _))
  · rw [if_pos z1, z2, z3] at hk0 hk1
    have hq30 := (hS.2.2.1 t ht q z4).2
    obtain ⟨b, hbo, hb, hT, hw⟩ := ty_cw2 hK ht z4
    by_cases hi : op_in y 0 (q.2.length - 1) = true
    · rw [if_pos hi] at hk0
      obtain ⟨k, hk9, rfl⟩ := op_in_nat hi
      rw [hx, nI_cl (by omega), nI_cl (by omega)] at hk0
      refine nd_astore hC dX1_write_5 (Nat.le_of_ble_eq_true rfl) rfl ?_
      refine nd_aload hC dX1_write_7 rfl rfl ?_
      refine nd_iload_n hC dX1_write_9 rfl ?_
      refine nd_lload_n hC dX1_write_10 rfl ?_
      refine nd_callV (mm2 := mX6_put) (As := [_, _]) (mc2 := 0) (ms2 := 0) (d2 := d - 1) hC rfl lkX1_532 ⟨rfl, lmX6_put⟩ (hT) rfl (Nat.le_of_ble_eq_true rfl) (by omega) rfl (by exact Nat.le_of_ble_eq_true rfl) (by omega) (by omega) dX1_write_11 rfl ((ty_put hg hT hw hq30 (by omega) (fun c hw2 => ?_)))
      have hT2 : (h.set b c)[96 + t]? = some (.inr (nX6, [.ref b])) := (List.getElem?_set_ne (by omega)).trans hT
      have hK2 := hK.trW ht hbo hb hT hw2
      refine nd_aload hC dX1_write_14 rfl rfl ?_
      refine nd_iload_n hC dX1_write_16 rfl ?_
      refine nd_callV (mm2 := mX6_at) (As := [_]) (mc2 := 0) (ms2 := 0) (d2 := d - 1) hC rfl lkX1_341 ⟨rfl, lmX6_at⟩ (hT2) rfl (Nat.le_of_ble_eq_true rfl) (by omega) rfl (by exact Nat.le_of_ble_eq_true rfl) (by omega) (by omega) dX1_write_17 rfl ((ty_get hg (q := (q.1, q.2.set k (sy_cut q.1 v))) ⟨b, hT2, hw2⟩ (by show (q.2.set k _).length ≤ 30; rw [List.length_set]; exact hq30) (k := k) (by show k < (q.2.set k _).length; rw [List.length_set]; omega) ?_))
      show nd_W _ _ _ _ _ _ _ _ _ (.long ((q.2.set k (sy_cut q.1 v)).getD k 0) :: _) _ _ _
      rw [l_getD_set (by omega), if_pos rfl]
      refine nd_lreturn hC rfl (by omega) (by omega) dX1_write_20 ((hk0 rfl _ ⟨hs.setH hb, o, nap, ds, gi, dss, hK2⟩ (cw_fr.rfl.set hb)))
    · rw [if_neg hi] at hk1
      have hout : ¬ vp_in y q.2.length := by
        rw [vp_in_iff]
        intro z
        refine hi ?_
        unfold op_in
        exact decide_eq_true (by omega)
      refine nd_astore hC dX1_write_5 (Nat.le_of_ble_eq_true rfl) rfl ?_
      refine nd_aload hC dX1_write_7 rfl rfl ?_
      refine nd_iload_n hC dX1_write_9 rfl ?_
      refine nd_lload_n hC dX1_write_10 rfl ?_
      refine nd_callV (mm2 := mX6_put) (As := [_, _]) (mc2 := 3) (ms2 := 222) (d2 := d - 1) hC rfl lkX1_532 ⟨rfl, lmX6_put⟩ (hT) rfl (Nat.le_of_ble_eq_true rfl) (by omega) rfl (by exact Nat.le_of_ble_eq_true rfl) (by omega) (by omega) dX1_write_11 rfl ((ty_putZ hg hT hw hq30 hout (fun n k => ?_)))
      refine nd_catch hC "java/lang/ArrayIndexOutOfBoundsException" [(7, 20, 21, 536)] (7, 20, 31, 538) [] rfl rfl (fun z hz => ?_) (by decide) (by decide) q2589 q1439 ?_
      · have hz : z = ⟨7, 20, 21, 536⟩ := List.mem_singleton.1 hz
        subst hz
        exact Or.inr ⟨by decide, "java/lang/NullPointerException", q2570, nw_nc hC [false, true, false, true, false, false, true, true, true, false, true] rfl⟩
      refine nd_astore hC dX1_write_31 (Nat.le_of_ble_eq_true rfl) rfl ?_
      refine nd_throw0 hC (by decide +kernel) (by decide +kernel) q2594 q198 (xa_iob hC) (by decide +kernel) (by decide) (by exact Nat.le_of_ble_eq_true rfl) dX1_write_33 dX1_write_36 dX1_write_37 dX1_write_40 (by omega) (by omega) (fun n => ?_)
      rw [List.append_assoc, List.replicate_append_replicate]
      exact nd_outH hC rfl (by decide) (by omega) (by omega) (hk1 (Nat.succ_ne_zero _) _ _ (hI0 _) (hF0 _))
theorem cp_copy (hg : nd_OK g) (hd : 8 ≤ d) (x : Int32) : cp_ok g mX1_copy d 2 12 [.int x] (ex2 eNSE eISE) (mp_i (op_copy x)) := by
  intro S h K hS hI hl123 hk0 hk1
  obtain ⟨hs, o, nap, ds, gi, dss, hK⟩ := hI
  obtain ⟨⟨x0, hO⟩, h17, hkk, -⟩ := id hK
  unfold cx_O at hO
  have hok := sy_l_ok hS
  have hwd := lk_width hok
  have hn : sy_n S ≤ 6 := hS.1.1.1
  have h5 := sy_len5 hS
  obtain ⟨sfr, sbk, sfo, smn, hSt, hcv⟩ := id hkk.2.1
  obtain ⟨hSt1, hSt2, hSt3, hSt4⟩ := id hSt
  have hcv : cs_v sfr sbk sfo smn (sy_c S) := hcv
  have hsv : sv_ok (sy_n S) (sy_c S) := hS.1.2.1
  unfold mp_i op_copy at hk0 hk1
  refine nd_enter hg (by decide) rfl (Nat.le_of_ble_eq_true rfl) (fun X hC => ?_)
  refine nd_aload_n hC dX1_copy_0 rfl rfl ?_
  refine nd_iload_n hC dX1_copy_1 rfl ?_
  refine nd_callV (mm2 := mX1_trayOf) (As := [_]) (mc2 := 1) (ms2 := 6) (d2 := d - 1) hC rfl lkX1_332 ⟨rfl, lmX1_trayOf⟩ (hO) rfl (Nat.le_of_ble_eq_true rfl) (by omega) rfl (by exact Nat.le_of_ble_eq_true rfl) (by omega) (by omega) dX1_copy_2 rfl ((cx_trayOf hg (by omega) hK (fun hc t ht hx => ?_) (fun hc n => ?_)))
  rotate_left
  · rw [ty_f1 hc, if_neg (by decide)] at hk1
    exact nd_out hC rfl (by omega) (by omega) (hk1 (Nat.succ_ne_zero _) _ _ ⟨hs.app, o, nap, ds, gi, dss, hK.f cw_f.rfl.app⟩ (cw_f.rfl.app.fr hl123))
  rcases ty_cases hK hc ht hx with ⟨z, z2⟩ | ⟨q, b0, z1, z2, z3, z4, z5, -⟩
  · rw [z, if_neg (by decide)] at hk1
    refine nd_astore_n hC dX1_copy_5 (Nat.le_of_ble_eq_true rfl) rfl ?_
    refine nd_aload_n hC dX1_copy_6 rfl rfl ?_
    refine nd_callS (mm2 := mX1_mustBe) (As := [_]) (mc2 := 1) (ms2 := 6) (d2 := d - 1) hC rfl lkX1_336 lmX1_mustBe (Nat.le_of_ble_eq_true rfl) (by omega) rfl (by exact Nat.le_of_ble_eq_true rfl) (by omega) (by omega) dX1_copy_7 rfl ((cx_mustBeN hg (by omega) z2 (fun n => ?_)))
    exact nd_out hC rfl (by omega) (by omega) (hk1 (Nat.succ_ne_zero _) _ _ ⟨hs.app, o, nap, ds, gi, dss, hK.f cw_f.rfl.app⟩ (cw_f.rfl.app.fr hl123))
  rw [if_pos z1, z2, z3] at hk0
  have hq30 := (hS.2.2.1 t ht q z4).2
  rw [hx, nI_cl (by omega)] at hk0
  refine nd_astore_n hC dX1_copy_5 (Nat.le_of_ble_eq_true rfl) rfl ?_
  refine nd_aload_n hC dX1_copy_6 rfl rfl ?_
  refine nd_callS (mm2 := mX1_mustBe) (As := [_]) (mc2 := 1) (ms2 := 6) (d2 := d - 1) hC rfl lkX1_336 lmX1_mustBe (Nat.le_of_ble_eq_true rfl) (by omega) rfl (by exact Nat.le_of_ble_eq_true rfl) (by omega) (by omega) dX1_copy_7 rfl ((cx_mustBeR hg (by omega) z5 ?_))
  refine nd_aload_n hC dX1_copy_10 rfl rfl ?_
  refine nd_callV (mm2 := mX1_now) (As := []) (mc2 := 0) (ms2 := 0) (d2 := d - 1) hC rfl lkX1_161 ⟨rfl, lmX1_now⟩ (hO) rfl (Nat.le_of_ble_eq_true rfl) (by omega) rfl (by exact Nat.le_of_ble_eq_true rfl) (by omega) (by omega) dX1_copy_11 rfl ((cw_now hg (by omega) hS hs hK (fun h2 R hR f hs2 hK2 hl => ?_)))
  obtain ⟨w, hi, co, hL, hw, hcl⟩ := id hl
  subst hw
  have hL1 := hL.1
  obtain ⟨b2, hbo2, hb2, hT2, hw2⟩ := ty_cw2 hK2 ht z4
  refine nd_astore_n hC dX1_copy_14 (Nat.le_of_ble_eq_true rfl) rfl ?_
  refine nd_aload_n hC dX1_copy_15 rfl rfl ?_
  refine nd_callV (mm2 := mX6_size) (As := []) (mc2 := 0) (ms2 := 0) (d2 := d - 1) hC rfl lkX1_340 ⟨rfl, lmX6_size⟩ (hT2) rfl (Nat.le_of_ble_eq_true rfl) (by omega) rfl (by exact Nat.le_of_ble_eq_true rfl) (by omega) (by omega) dX1_copy_16 rfl ((ty_size hg ⟨b2, hT2, hw2⟩ hq30 ?_))
  refine nd_aload_n hC dX1_copy_19 rfl rfl ?_
  refine nd_getN (ci := nX4) hC in_X4 rfl hL1 2 (by decide) q344 (fun _ z => z) rfl dX1_copy_20 ?_
  first | ((with_reducible refine nd_tst2 ?_); refine nd_mminN hC (by omega) (by omega) q944 (by omega) (by omega) (by exact Nat.le_of_ble_eq_true rfl) dX1_copy_23 ?_) | refine nd_mmin hC q944 (by omega) (by omega) (by exact Nat.le_of_ble_eq_true rfl) dX1_copy_23 ?_
  refine nd_istore hC dX1_copy_26 (Nat.le_of_ble_eq_true rfl) ?_
  refine nd_iconst hC (v := nI 0) (by rfl) dX1_copy_28 ?_
  refine nd_istore hC dX1_copy_29 (Nat.le_of_ble_eq_true rfl) ?_
  generalize hnn : min q.2.length (sy_l S).length = nn at hk0 ⊢
  have hl2 : 123 ≤ h2.length := by have := f.1; omega
  have LP : ∀ k, k ≤ nn → ∀ h3, cw_S h3 → cw_K o nap ds gi dss (sy_tr S t (q.1, cp_go S q.1 q.2 k)) h3 → (cp_go S q.1 q.2 k).length = q.2.length → ck_lk h3 R (sy_l S) → cw_fr h h3 → nd_W g mX1_copy d 2 12 K X 31 [some (.ref 0), some (.int x), some (.ref (96 + t)), some (.ref R), some (.int (nI nn)), some (.int (nI k))] [] h3 (0 + 1 + 1) (0 + 6 + 6) := by
    refine nd_for _ _ ?_ ?_
    · intro h3 hs3 hK3 hln hl3 f3
      refine nd_iload hC dX1_copy_31 rfl ?_
      refine nd_iload hC dX1_copy_33 rfl ?_
      first | with_reducible refine nd_icmp_geN hC (tgt := 64) (by omega) (by omega) dX1_copy_35 (by decide) (fun hq => ?_) (fun hq => ?_) | refine nd_icmp_ge hC (tgt := 64) dX1_copy_35 (by decide) (fun hq => ?_) (fun hq => ?_)
      · refine nd_iload hC dX1_copy_64 rfl ?_
        refine nd_ireturn hC rfl (by first | rfl | exact nd_b_nar _) (by omega) (by omega) dX1_copy_66 ((hk0 rfl h3 ⟨hs3, o, nap, ds, gi, dss, hK3⟩ f3))
      · omega
    · intro k hkn ih h3 hs3 hK3 hln hl3 f3
      obtain ⟨⟨x3, hO3⟩, -, hkk3, -⟩ := id hK3
      have hO3 : h3[0]? = _ := hO3
      obtain ⟨sfr3, sbk3, sfo3, smn3, hSt3, -⟩ := id hkk3.2.1
      obtain ⟨w3, hi3, co3, hL3, -, -⟩ := id hl3
      obtain ⟨b, hbo, hb, hT3, hw3⟩ := ty_cw2 (q := (q.1, cp_go S q.1 q.2 k)) hK3 ht (by show (if t = t then _ else _) = _; rw [if_pos rfl])
      refine nd_iload hC dX1_copy_31 rfl ?_
      refine nd_iload hC dX1_copy_33 rfl ?_
      first | with_reducible refine nd_icmp_geN hC (tgt := 64) (by omega) (by omega) dX1_copy_35 (by decide) (fun hq => ?_) (fun hq => ?_) | refine nd_icmp_ge hC (tgt := 64) dX1_copy_35 (by decide) (fun hq => ?_) (fun hq => ?_)
      · omega
      refine nd_aload_n hC dX1_copy_38 rfl rfl ?_
      refine nd_iload hC dX1_copy_39 rfl ?_
      refine nd_aload_n hC dX1_copy_41 rfl rfl ?_
      refine nd_get (ci := nX1) hC in_X1 rfl hO3 0 (by decide) q384 (fun _ z => z) rfl dX1_copy_42 ?_
      refine nd_aload_n hC dX1_copy_45 rfl rfl ?_
      refine nd_iload hC dX1_copy_46 rfl ?_
      refine nd_callV (mm2 := mX4_above) (As := [_]) (mc2 := 0) (ms2 := 0) (d2 := d - 1) hC rfl lkX1_205 ⟨rfl, lmX4_above⟩ (hL3.1) rfl (Nat.le_of_ble_eq_true rfl) (by omega) rfl (by exact Nat.le_of_ble_eq_true rfl) (by omega) (by omega) dX1_copy_48 rfl ((cl_above hg hl3 hok hn (t := k) (by omega) ?_))
      refine nd_callV (mm2 := mX2_mark) (As := [_]) (mc2 := 0) (ms2 := 0) (d2 := d - 1) hC rfl lkX1_208 ⟨rfl, lmX2_mark⟩ (hSt3.1) rfl (Nat.le_of_ble_eq_true rfl) (by omega) rfl (by exact Nat.le_of_ble_eq_true rfl) (by omega) (by omega) dX1_copy_51 rfl ((cs_mark (s := sy_c S) hg hkk3.2.1 hsv.2.1 hsv.2.2.1 hn (lk_top_half hok hn (by omega)) ?_))
      refine nd_i2l hC dX1_copy_54 ?_
      refine nd_callV (mm2 := mX6_put) (As := [_, _]) (mc2 := 0) (ms2 := 0) (d2 := d - 1) hC rfl lkX1_532 ⟨rfl, lmX6_put⟩ (hT3) rfl (Nat.le_of_ble_eq_true rfl) (by omega) rfl (by exact Nat.le_of_ble_eq_true rfl) (by omega) (by omega) dX1_copy_55 rfl ((ty_put hg hT3 hw3 (by show (cp_go S q.1 q.2 k).length ≤ 30; omega) (by show k < (cp_go S q.1 q.2 k).length; omega) (fun c hw4 => ?_)))
      first | with_reducible refine nd_iincN hC dX1_copy_58 rfl (Nat.le_of_ble_eq_true rfl) ?_ | refine nd_iinc hC dX1_copy_58 rfl rfl (Nat.le_of_ble_eq_true rfl) ?_
      refine nd_goto hC (tgt := 31) dX1_copy_61 (by decide) ?_
      have hK4 := hK3.trW ht hbo hb hT3 hw4
      have eS : sy_tr (sy_tr S t (q.1, cp_go S q.1 q.2 k)) t (q.1, cp_go S q.1 q.2 (k + 1)) = sy_tr S t (q.1, cp_go S q.1 q.2 (k + 1)) := by
        unfold sy_tr
        congr 3
        funext i
        by_cases e : i = t
        · rw [if_pos e, if_pos e]
        · rw [if_neg e, if_neg e]; exact if_neg e
      exact ih _ (hs3.setH hb) (by rw [← eS]; exact hK4) (by show ((cp_go S q.1 q.2 k).set k _).length = _; rw [List.length_set]; exact hln) (hl3.fr (L := b) (n := 1) (ck_fr.set ⟨Nat.le_refl _, by omega⟩) (by omega)) (f3.set hb)
  have eS0 : sy_tr S t (q.1, q.2) = S := by
    have : (fun i => if i = t then some (q.1, q.2) else sy_t S i) = sy_t S := by
      funext i
      by_cases e : i = t
      · rw [if_pos e, e, z4]
      · rw [if_neg e]
    unfold sy_tr
    rw [this]
  exact LP 0 (Nat.zero_le _) h2 hs2 (by rw [show cp_go S q.1 q.2 0 = q.2 from rfl, eS0]; exact hK2) rfl hl (f.fr hl123)
end CP86

