set_option maxRecDepth 100000
section CP75
variable {g : nd_G} {d : Nat} {K : nd_K} {h : nd_H} {o : Nat → Nat} {nap : Nat} {ds : List Nat} {gi : Nat → Value} {dss : Nat → List Nat} {S : sy_S}
theorem cp_perform (hg : nd_OK g) (hd : 10 ≤ d) (x : Int32) : cp_ok g mX1_perform d 290 1500 [.int x] (ex2 eNSE eISE) (mp_i (op_perform x)) := by
  intro S h K hS hI hl123 hk0 hk1
  obtain ⟨hs, o, nap, ds, gi, dss, hK⟩ := hI
  obtain ⟨⟨x0, hO⟩, h17, hkk, -⟩ := id hK
  unfold cx_O at hO
  have hok := sy_l_ok hS
  have hwd := lk_width hok
  have hn : sy_n S ≤ 6 := hS.1.1.1
  have h5 := sy_len5 hS
  obtain ⟨sfr, sbk, sfo, smn, hSt, hcv⟩ := id hkk.2.1
  obtain ⟨hSt1, hSt2, hSt3, hSt4⟩ := id hSt
  have hcv : cs_v sfr sbk sfo smn (sy_c S) := hcv
  have hsv : sv_ok (sy_n S) (sy_c S) := hS.1.2.1
  unfold mp_i op_perform at hk0 hk1
  refine nd_enter hg (by decide) rfl (Nat.le_of_ble_eq_true rfl) (fun X hC => ?_)
  refine nd_aload_n hC dX1_perform_0 rfl rfl ?_
  refine nd_iload_n hC dX1_perform_1 rfl ?_
  refine nd_callV (mm2 := mX1_trayOf) (As := [_]) (mc2 := 1) (ms2 := 6) (d2 := d - 1) hC rfl lkX1_332 ⟨rfl, lmX1_trayOf⟩ (hO) rfl (Nat.le_of_ble_eq_true rfl) (by omega) rfl (by exact Nat.le_of_ble_eq_true rfl) (by omega) (by omega) dX1_perform_2 rfl ((cx_trayOf hg (by omega) hK (fun hc t ht hx => ?_) (fun hc n => ?_)))
  · rcases ty_cases hK hc ht hx with ⟨z, z2⟩ | ⟨q, b, z1, z2, z3, z4, z5, hT⟩
    · rw [z, if_neg (by decide)] at hk1
      refine nd_astore_n hC dX1_perform_5 (Nat.le_of_ble_eq_true rfl) rfl ?_
      refine nd_aload_n hC dX1_perform_6 rfl rfl ?_
      refine nd_callS (mm2 := mX1_mustBe) (As := [_]) (mc2 := 1) (ms2 := 6) (d2 := d - 1) hC rfl lkX1_336 lmX1_mustBe (Nat.le_of_ble_eq_true rfl) (by omega) rfl (by exact Nat.le_of_ble_eq_true rfl) (by omega) (by omega) dX1_perform_7 rfl ((cx_mustBeN hg (by omega) z2 (fun n => ?_)))
      exact nd_out hC rfl (by omega) (by omega) (hk1 (Nat.succ_ne_zero _) _ _ ⟨hs.app, o, nap, ds, gi, dss, hK.f cw_f.rfl.app⟩ (cw_f.rfl.app.fr hl123))
    · rw [if_pos z1, z2] at hk0
      have hq30 := (hS.2.2.1 t ht q z4).2
      refine nd_astore_n hC dX1_perform_5 (Nat.le_of_ble_eq_true rfl) rfl ?_
      refine nd_aload_n hC dX1_perform_6 rfl rfl ?_
      refine nd_callS (mm2 := mX1_mustBe) (As := [_]) (mc2 := 1) (ms2 := 6) (d2 := d - 1) hC rfl lkX1_336 lmX1_mustBe (Nat.le_of_ble_eq_true rfl) (by omega) rfl (by exact Nat.le_of_ble_eq_true rfl) (by omega) (by omega) dX1_perform_7 rfl ((cx_mustBeR hg (by omega) z5 ?_))
      refine nd_iconst hC (v := nI 0) (by rfl) dX1_perform_10 ?_
      refine nd_istore_n hC dX1_perform_11 (Nat.le_of_ble_eq_true rfl) ?_
      exact cx_pf hg hC (by omega) hc ht hx hq30 q.2 0 S h _ _ hS ⟨hs, o, nap, ds, gi, dss, hK⟩ hl123 cw_fr.rfl z4 rfl (by omega) (by omega) (fun h2 a b => hk0 rfl h2 a b) (Nat.zero_le _)
  · rw [ty_f1 hc, if_neg (by decide)] at hk1
    exact nd_out hC rfl (by omega) (by omega) (hk1 (Nat.succ_ne_zero _) _ _ ⟨hs.app, o, nap, ds, gi, dss, hK.f cw_f.rfl.app⟩ (cw_f.rfl.app.fr hl123))
end CP75

