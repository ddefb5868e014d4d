set_option maxRecDepth 100000
section CP77
variable {g : nd_G} {d mc ms : Nat} {K : nd_K} {X : nd_X} {h : nd_H} {o : Nat → Nat} {nap : Nat} {ds : List Nat} {gi : Nat → Value} {dss : Nat → List Nat} {S : sy_S}
theorem cx_undoL (hg : nd_OK g) (hC : nd_Cx g mX1_undo X) (hd : 4 ≤ d) {x : Int32} {k cs ss : Nat} (hcs : cs ≤ mc) (hss : ss ≤ ms) : ∀ (j : Nat) (S : sy_S) (h1 : nd_H), (sy_d S).length ≤ 10 → cw_I S h1 → (sy_d S).length = k + j → cw_fr h h1 → 123 ≤ h1.length → (∀ h2, cw_I (sy_set S (sy_N S, sy_c S, (sy_d S).take k)) h2 → cw_fr h h2 → K (.inl (some (.int (nI k)))) h2) → nd_W g mX1_undo d mc ms K X 59 [some (.ref 0), some (.int x), some (.int (nI k))] [] h1 cs ss := by
  intro j
  induction j with
  | zero =>
    intro S h1 h10 hI hj hf hl hk
    obtain ⟨hs, o, nap, ds, gi, dss, hK⟩ := id hI
    obtain ⟨⟨x0, hO⟩, -, ⟨c1, c2, c3, c4, c5⟩, -⟩ := id hK
    unfold cx_O at hO
    have c4 : ds.length = (sy_d S).length := c4
    obtain ⟨m0, ed0, e90⟩ : ∃ m0 ed0, h1[90]? = some (.inr (nJ2, [.int m0, ed0, .int (nI ds.length)])) := by
      rcases c3 with ⟨e1, m, e2⟩ | ⟨m, ed, gf, e1, e2, e3, -⟩
      · rw [e1]; exact ⟨m, _, e2⟩
      · exact ⟨m, _, e3⟩
    have et : (sy_d S).take k = sy_d S := List.take_of_length_le (by omega)
    rw [et] at hk
    refine nd_aload_n hC dX1_undo_59 rfl rfl ?_
    refine nd_get (ci := nX1) hC in_X1 rfl hO 3 (by decide) q389 (fun _ z => z) rfl dX1_undo_60 ?_
    refine nd_callV (mm2 := mJ2_size) (As := []) (mc2 := 0) (ms2 := 0) (d2 := d - 1) hC rfl lkX1_154 ⟨rfl, lmJ2_size⟩ (e90) rfl (Nat.le_of_ble_eq_true rfl) (by omega) rfl (by exact Nat.le_of_ble_eq_true rfl) (by omega) (by omega) dX1_undo_63 rfl ((ca_size hg e90 ?_))
    refine nd_iload_n hC dX1_undo_66 rfl ?_
    first | with_reducible refine nd_icmp_leN hC (tgt := 90) (by omega) (by omega) dX1_undo_67 (by decide) (fun hq => ?_) (fun hq => ?_) | refine nd_icmp_le hC (tgt := 90) dX1_undo_67 (by decide) (fun hq => ?_) (fun hq => ?_)
    · refine nd_iload_n hC dX1_undo_90 rfl ?_
      refine nd_ireturn hC rfl (by first | rfl | exact nd_b_nar _) (by omega) (by omega) dX1_undo_91 ((hk h1 hI hf))
    · omega
  | succ j ih =>
    intro S h1 h10 hI hj hf hl hk
    obtain ⟨hs, o, nap, ds, gi, dss, hK⟩ := id hI
    obtain ⟨⟨x0, hO⟩, -, ⟨c1, c2, c3, c4, c5⟩, -⟩ := id hK
    unfold cx_O at hO
    have c4 : ds.length = (sy_d S).length := c4
    obtain ⟨m0, ed0, e90⟩ : ∃ m0 ed0, h1[90]? = some (.inr (nJ2, [.int m0, ed0, .int (nI ds.length)])) := by
      rcases c3 with ⟨e1, m, e2⟩ | ⟨m, ed, gf, e1, e2, e3, -⟩
      · rw [e1]; exact ⟨m, _, e2⟩
      · exact ⟨m, _, e3⟩
    refine nd_aload_n hC dX1_undo_59 rfl rfl ?_
    refine nd_get (ci := nX1) hC in_X1 rfl hO 3 (by decide) q389 (fun _ z => z) rfl dX1_undo_60 ?_
    refine nd_callV (mm2 := mJ2_size) (As := []) (mc2 := 0) (ms2 := 0) (d2 := d - 1) hC rfl lkX1_154 ⟨rfl, lmJ2_size⟩ (e90) rfl (Nat.le_of_ble_eq_true rfl) (by omega) rfl (by exact Nat.le_of_ble_eq_true rfl) (by omega) (by omega) dX1_undo_63 rfl ((ca_size hg e90 ?_))
    refine nd_iload_n hC dX1_undo_66 rfl ?_
    first | with_reducible refine nd_icmp_leN hC (tgt := 90) (by omega) (by omega) dX1_undo_67 (by decide) (fun hq => ?_) (fun hq => ?_) | refine nd_icmp_le hC (tgt := 90) dX1_undo_67 (by decide) (fun hq => ?_) (fun hq => ?_)
    · omega
    refine nd_aload_n hC dX1_undo_70 rfl rfl ?_
    refine nd_get (ci := nX1) hC in_X1 rfl hO 3 (by decide) q389 (fun _ z => z) rfl dX1_undo_71 ?_
    refine nd_aload_n hC dX1_undo_74 rfl rfl ?_
    refine nd_get (ci := nX1) hC in_X1 rfl hO 3 (by decide) q389 (fun _ z => z) rfl dX1_undo_75 ?_
    refine nd_callV (mm2 := mJ2_size) (As := []) (mc2 := 0) (ms2 := 0) (d2 := d - 1) hC rfl lkX1_154 ⟨rfl, lmJ2_size⟩ (e90) rfl (Nat.le_of_ble_eq_true rfl) (by omega) rfl (by exact Nat.le_of_ble_eq_true rfl) (by omega) (by omega) dX1_undo_78 rfl ((ca_size hg e90 ?_))
    refine nd_iconst hC (v := nI 1) (by rfl) dX1_undo_81 ?_
    refine nd_isub hC dX1_undo_82 ?_
    refine nd_v_eq (y := .int (nI (k + j))) (by
      congr 1
      apply Int32.toInt_inj.1
      rw [nd_ti (by omega) (by omega), nI_toInt (by omega)]
      omega) ?_
    refine nd_callV (mm2 := mJ2_remove) (As := [_]) (mc2 := 0) (ms2 := 0) (d2 := d - 1) hC rfl lkX1_285 ⟨rfl, lmJ2_remove⟩ (e90) rfl (Nat.le_of_ble_eq_true rfl) (by omega) rfl (by exact Nat.le_of_ble_eq_true rfl) (by omega) (by omega) dX1_undo_83 rfl ((cx_remLast hg (by omega) hK (n := k + j) (by omega) (by omega) ?_))
    intro h2 v l2 f2 hK2
    refine nd_pop hC (by rfl) dX1_undo_86 ?_
    refine nd_goto hC (tgt := 59) dX1_undo_87 (by decide) ?_
    refine ih (sy_set S (sy_N S, sy_c S, (sy_d S).take (k + j))) h2 (by show ((sy_d S).take (k + j)).length ≤ 10; rw [List.length_take]; omega) ⟨hs.kp (fun a ha => f2 a (by unfold cw_sc at ha; omega) (by rw [hK.lo (by unfold cw_sc at ha; omega) (by unfold cw_sc at ha; omega)]; omega)), o, nap, _, gi, dss, hK2⟩ (by show ((sy_d S).take (k + j)).length = _; rw [List.length_take]; omega) (hf.trans ⟨by omega, fun a q1 q2 => f2 a (by omega) (by rw [hK.lo (by omega) (by omega)]; omega)⟩) (by omega) (fun h3 a b => hk h3 ?_ b)
    have a : cw_I (sy_set S (sy_N S, sy_c S, ((sy_d S).take (k + j)).take k)) h3 := a
    rw [List.take_take, Nat.min_eq_left (by omega)] at a
    exact a
end CP77

