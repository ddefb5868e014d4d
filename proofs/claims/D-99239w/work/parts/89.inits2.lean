set_option maxRecDepth 100000
theorem l_set_app2 {h : nd_H} {b : Nat} {A B c e : nd_C} (hb : b < h.length) : (((h.set b A) ++ [c]) ++ [e]).set b B = ((h.set b B) ++ [c]) ++ [e] := by
  rw [List.set_append_left _ _ (by rw [List.length_append, List.length_set]; omega), l_set_app hb]
theorem l_get_app2 {h : nd_H} {b : Nat} {A c e : nd_C} (hb : b < h.length) : (((h.set b A) ++ [c]) ++ [e])[b]? = some A := by
  rw [List.getElem?_append_left (by rw [List.length_append, List.length_set]; omega), l_get_app hb]
section IN89
variable {g : nd_G} {d : Nat} {K : nd_K} {h : nd_H} {b : Nat}
theorem ni_rowsX29 (hg : nd_OK g) {x0 x1 x2 x3 x4 x5 x6 : Value} (hb : h[b]? = some (.inr (nX29, [x0, x1, x2, x3, x4, x5, x6]))) (hk : K (.inl none) ((h.set b (.inr (nX29, [x0, x1, x2, x3, .ref h.length, .ref 0, x6]))) ++ [.inl (0, 5, .inl (fun _ => 0))])) : nd_M g mX20_init d 1 5 [.ref b, .ref 0] h K := by
  have hlt := nd_get_lt hb
  refine nd_enter hg (by decide) rfl (Nat.le_of_ble_eq_true rfl) (fun X hC => ?_)
  refine nd_aload_n hC dX20_init_0 rfl rfl ?_
  refine nd_aload_n hC dX20_init_1 rfl rfl ?_
  refine nd_putF (ci := nX29) hC in_X29 rfl hb 5 (by decide) tyX29 tyX29_ok (by decide +kernel) q786 (fun _ z => z) rfl rfl rfl rfl rfl (by show 5 < 7; decide) dX20_init_2 ?_
  refine nd_aload_n hC dX20_init_5 rfl rfl ?_
  refine nd_objInit hC q773 q225 q226 (by exact Nat.le_of_ble_eq_true rfl) dX20_init_6 ?_
  refine nd_aload_n hC dX20_init_9 rfl rfl ?_
  refine nd_iconst hC (v := nI 5) (by rfl) dX20_init_10 ?_
  refine nd_newarray hC (atype := .int) (ty := 0) .int (.inl (fun _ => 0)) q322 rfl rfl (fun _ _ => rfl) (N := 5) rfl (by decide) (by decide) (by omega) (by omega) dX20_init_11 ?_
  have hb2 := l_get_app (h := h) (b := b) (A := .inr (nX29, [x0, x1, x2, x3, x4, .ref 0, x6])) (c := .inl (0, 5, .inl (fun _ => 0))) hlt
  refine nd_putF (ci := nX29) hC in_X29 rfl hb2 4 (by decide) tyX29 tyX29_ok (by decide +kernel) q783 (fun _ z => z) rfl rfl rfl rfl rfl (by show 4 < 7; decide) dX20_init_13 ?_
  rw [List.length_set]
  have R9 := hk
  rw [← l_set_app (A := .inr (nX29, [x0, x1, x2, x3, x4, .ref 0, x6])) hlt] at R9
  refine nd_return hC rfl (by omega) (by omega) dX20_init_16 (R9)
theorem ni_bestX29 (hg : nd_OK g) (hd : 1 ≤ d) {x0 x1 x2 x3 x4 x5 x6 : Value} (hb : h[b]? = some (.inr (nX29, [x0, x1, x2, x3, x4, x5, x6]))) (hk : K (.inl none) (((h.set b (.inr (nX29, [.ref (h.length + 1), .int (-1), .long be_min, .ref 0, .ref h.length, .ref 0, x6]))) ++ [.inl (0, 5, .inl (fun _ => 0))]) ++ [.inl (0, 5, .inl (fun _ => 0))])) : nd_M g mX25_init d 2 10 [.ref b, .ref 0] h K := by
  have hlt := nd_get_lt hb
  refine nd_enter hg (by decide) rfl (Nat.le_of_ble_eq_true rfl) (fun X hC => ?_)
  refine nd_aload_n hC dX25_init_0 rfl rfl ?_
  refine nd_aload_n hC dX25_init_1 rfl rfl ?_
  refine nd_putF (ci := nX29) hC in_X29 rfl hb 3 (by decide) tyX29 tyX29_ok (by decide +kernel) q782 (fun _ z => z) rfl rfl rfl rfl rfl (by show 3 < 7; decide) dX25_init_2 ?_
  refine nd_aload_n hC dX25_init_5 rfl rfl ?_
  refine nd_aload_n hC dX25_init_6 rfl rfl ?_
  refine nd_callIN (mm2 := mX20_init) (As := [_]) (mc2 := 1) (ms2 := 5) (d2 := d - 1) hC rfl rfl q772 q190 q770 q771 rfl lmX20_init (Nat.le_of_ble_eq_true rfl) (by omega) rfl (by exact Nat.le_of_ble_eq_true rfl) (by omega) (by omega) dX25_init_7 rfl ((ni_rowsX29 hg (List.getElem?_set_self hlt) ?_))
  rw [List.length_set, List.set_set]
  refine nd_aload_n hC dX25_init_10 rfl rfl ?_
  refine nd_iconst hC (v := nI 5) (by rfl) dX25_init_11 ?_
  refine nd_newarray hC (atype := .int) (ty := 0) .int (.inl (fun _ => 0)) q322 rfl rfl (fun _ _ => rfl) (N := 5) rfl (by decide) (by decide) (by omega) (by omega) dX25_init_12 ?_
  rw [show ((h.set b (.inr (nX29, [x0, x1, x2, .ref 0, .ref h.length, .ref 0, x6]))) ++ [.inl (0, 5, .inl (fun _ => 0))] : nd_H).length = h.length + 1 by rw [List.length_append, List.length_set]; rfl]
  refine nd_putF (ci := nX29) hC in_X29 rfl (l_get_app2 hlt) 0 (by decide) tyX29 tyX29_ok (by decide +kernel) q776 (fun _ z => z) rfl rfl rfl rfl rfl (by show 0 < 7; decide) dX25_init_14 ?_
  rw [l_set_app2 hlt]
  refine nd_aload_n hC dX25_init_17 rfl rfl ?_
  refine nd_iconst hC (v := -1) rfl dX25_init_18 ?_
  refine nd_put (ci := nX29) hC in_X29 rfl (l_get_app2 hlt) 1 (by decide) tyX29 tyX29_ok (by decide +kernel) q777 (fun _ z => z) rfl rfl rfl (by show 1 < 7; decide) dX25_init_19 ?_
  rw [l_set_app2 hlt]
  refine nd_aload_n hC dX25_init_22 rfl rfl ?_
  refine nd_ldc2 hC q774 dX25_init_23 ?_
  refine nd_put (ci := nX29) hC in_X29 rfl (l_get_app2 hlt) 2 (by decide) tyX29 tyX29_ok (by decide +kernel) q780 (fun _ z => z) rfl rfl rfl (by show 2 < 7; decide) dX25_init_26 ?_
  rw [l_set_app2 hlt]
  refine nd_return hC rfl (by omega) (by omega) dX25_init_29 (hk)
theorem ni_X29 (hg : nd_OK g) (hd : 3 ≤ d) {x0 x1 x2 x3 x4 x5 x6 : Value} (hb : h[b]? = some (.inr (nX29, [x0, x1, x2, x3, x4, x5, x6]))) (hk : K (.inl none) (((h.set b (.inr (nX29, [.ref (h.length + 1), .int (-1), .long be_min, .ref 0, .ref h.length, .ref 0, .ref 0]))) ++ [.inl (0, 5, .inl (fun _ => 0))]) ++ [.inl (0, 5, .inl (fun _ => 0))])) : nd_M g mX29_init d 2 10 [.ref b, .ref 0] h K := by
  have hlt := nd_get_lt hb
  refine nd_enter hg (by decide) rfl (Nat.le_of_ble_eq_true rfl) (fun X hC => ?_)
  refine nd_aload_n hC dX29_init_0 rfl rfl ?_
  refine nd_aload_n hC dX29_init_1 rfl rfl ?_
  refine nd_putF (ci := nX29) hC in_X29 rfl hb 6 (by decide) tyX29 tyX29_ok (by decide +kernel) q775 (fun _ z => z) rfl rfl rfl rfl rfl (by show 6 < 7; decide) dX29_init_2 ?_
  refine nd_aload_n hC dX29_init_5 rfl rfl ?_
  refine nd_aload_n hC dX29_init_6 rfl rfl ?_
  refine nd_callIN (mm2 := mX25_init) (As := [_]) (mc2 := 2) (ms2 := 10) (d2 := d - 1) hC rfl rfl q769 q201 q767 q768 rfl lmX25_init (Nat.le_of_ble_eq_true rfl) (by omega) rfl (by exact Nat.le_of_ble_eq_true rfl) (by omega) (by omega) dX29_init_7 rfl ((ni_bestX29 hg (by omega) (List.getElem?_set_self hlt) ?_))
  rw [List.length_set, List.set_set]
  refine nd_return hC rfl (by omega) (by omega) dX29_init_10 (hk)
theorem ni_rowsX36 (hg : nd_OK g) {x0 x1 x2 x3 x4 x5 x6 : Value} (hb : h[b]? = some (.inr (nX36, [x0, x1, x2, x3, x4, x5, x6]))) (hk : K (.inl none) ((h.set b (.inr (nX36, [x0, x1, x2, x3, .ref h.length, .ref 0, x6]))) ++ [.inl (0, 5, .inl (fun _ => 0))])) : nd_M g mX20_init d 1 5 [.ref b, .ref 0] h K := by
  have hlt := nd_get_lt hb
  refine nd_enter hg (by decide) rfl (Nat.le_of_ble_eq_true rfl) (fun X hC => ?_)
  refine nd_aload_n hC dX20_init_0 rfl rfl ?_
  refine nd_aload_n hC dX20_init_1 rfl rfl ?_
  refine nd_putF (ci := nX36) hC in_X36 rfl hb 5 (by decide) tyX36 tyX36_ok (by decide +kernel) q786 (fun _ z => z) rfl rfl rfl rfl rfl (by show 5 < 7; decide) dX20_init_2 ?_
  refine nd_aload_n hC dX20_init_5 rfl rfl ?_
  refine nd_objInit hC q773 q225 q226 (by exact Nat.le_of_ble_eq_true rfl) dX20_init_6 ?_
  refine nd_aload_n hC dX20_init_9 rfl rfl ?_
  refine nd_iconst hC (v := nI 5) (by rfl) dX20_init_10 ?_
  refine nd_newarray hC (atype := .int) (ty := 0) .int (.inl (fun _ => 0)) q322 rfl rfl (fun _ _ => rfl) (N := 5) rfl (by decide) (by decide) (by omega) (by omega) dX20_init_11 ?_
  have hb2 := l_get_app (h := h) (b := b) (A := .inr (nX36, [x0, x1, x2, x3, x4, .ref 0, x6])) (c := .inl (0, 5, .inl (fun _ => 0))) hlt
  refine nd_putF (ci := nX36) hC in_X36 rfl hb2 4 (by decide) tyX36 tyX36_ok (by decide +kernel) q783 (fun _ z => z) rfl rfl rfl rfl rfl (by show 4 < 7; decide) dX20_init_13 ?_
  rw [List.length_set]
  have R9 := hk
  rw [← l_set_app (A := .inr (nX36, [x0, x1, x2, x3, x4, .ref 0, x6])) hlt] at R9
  refine nd_return hC rfl (by omega) (by omega) dX20_init_16 (R9)
theorem ni_bestX36 (hg : nd_OK g) (hd : 1 ≤ d) {x0 x1 x2 x3 x4 x5 x6 : Value} (hb : h[b]? = some (.inr (nX36, [x0, x1, x2, x3, x4, x5, x6]))) (hk : K (.inl none) (((h.set b (.inr (nX36, [.ref (h.length + 1), .int (-1), .long be_min, .ref 0, .ref h.length, .ref 0, x6]))) ++ [.inl (0, 5, .inl (fun _ => 0))]) ++ [.inl (0, 5, .inl (fun _ => 0))])) : nd_M g mX25_init d 2 10 [.ref b, .ref 0] h K := by
  have hlt := nd_get_lt hb
  refine nd_enter hg (by decide) rfl (Nat.le_of_ble_eq_true rfl) (fun X hC => ?_)
  refine nd_aload_n hC dX25_init_0 rfl rfl ?_
  refine nd_aload_n hC dX25_init_1 rfl rfl ?_
  refine nd_putF (ci := nX36) hC in_X36 rfl hb 3 (by decide) tyX36 tyX36_ok (by decide +kernel) q782 (fun _ z => z) rfl rfl rfl rfl rfl (by show 3 < 7; decide) dX25_init_2 ?_
  refine nd_aload_n hC dX25_init_5 rfl rfl ?_
  refine nd_aload_n hC dX25_init_6 rfl rfl ?_
  refine nd_callIN (mm2 := mX20_init) (As := [_]) (mc2 := 1) (ms2 := 5) (d2 := d - 1) hC rfl rfl q772 q190 q770 q771 rfl lmX20_init (Nat.le_of_ble_eq_true rfl) (by omega) rfl (by exact Nat.le_of_ble_eq_true rfl) (by omega) (by omega) dX25_init_7 rfl ((ni_rowsX36 hg (List.getElem?_set_self hlt) ?_))
  rw [List.length_set, List.set_set]
  refine nd_aload_n hC dX25_init_10 rfl rfl ?_
  refine nd_iconst hC (v := nI 5) (by rfl) dX25_init_11 ?_
  refine nd_newarray hC (atype := .int) (ty := 0) .int (.inl (fun _ => 0)) q322 rfl rfl (fun _ _ => rfl) (N := 5) rfl (by decide) (by decide) (by omega) (by omega) dX25_init_12 ?_
  rw [show ((h.set b (.inr (nX36, [x0, x1, x2, .ref 0, .ref h.length, .ref 0, x6]))) ++ [.inl (0, 5, .inl (fun _ => 0))] : nd_H).length = h.length + 1 by rw [List.length_append, List.length_set]; rfl]
  refine nd_putF (ci := nX36) hC in_X36 rfl (l_get_app2 hlt) 0 (by decide) tyX36 tyX36_ok (by decide +kernel) q776 (fun _ z => z) rfl rfl rfl rfl rfl (by show 0 < 7; decide) dX25_init_14 ?_
  rw [l_set_app2 hlt]
  refine nd_aload_n hC dX25_init_17 rfl rfl ?_
  refine nd_iconst hC (v := -1) rfl dX25_init_18 ?_
  refine nd_put (ci := nX36) hC in_X36 rfl (l_get_app2 hlt) 1 (by decide) tyX36 tyX36_ok (by decide +kernel) q777 (fun _ z => z) rfl rfl rfl (by show 1 < 7; decide) dX25_init_19 ?_
  rw [l_set_app2 hlt]
  refine nd_aload_n hC dX25_init_22 rfl rfl ?_
  refine nd_ldc2 hC q774 dX25_init_23 ?_
  refine nd_put (ci := nX36) hC in_X36 rfl (l_get_app2 hlt) 2 (by decide) tyX36 tyX36_ok (by decide +kernel) q780 (fun _ z => z) rfl rfl rfl (by show 2 < 7; decide) dX25_init_26 ?_
  rw [l_set_app2 hlt]
  refine nd_return hC rfl (by omega) (by omega) dX25_init_29 (hk)
theorem ni_X36 (hg : nd_OK g) (hd : 3 ≤ d) {x0 x1 x2 x3 x4 x5 x6 : Value} (hb : h[b]? = some (.inr (nX36, [x0, x1, x2, x3, x4, x5, x6]))) (hk : K (.inl none) (((h.set b (.inr (nX36, [.ref (h.length + 1), .int (-1), .long be_min, .ref 0, .ref h.length, .ref 0, .ref 0]))) ++ [.inl (0, 5, .inl (fun _ => 0))]) ++ [.inl (0, 5, .inl (fun _ => 0))])) : nd_M g mX36_init d 2 10 [.ref b, .ref 0] h K := by
  have hlt := nd_get_lt hb
  refine nd_enter hg (by decide) rfl (Nat.le_of_ble_eq_true rfl) (fun X hC => ?_)
  refine nd_aload_n hC dX36_init_0 rfl rfl ?_
  refine nd_aload_n hC dX36_init_1 rfl rfl ?_
  refine nd_putF (ci := nX36) hC in_X36 rfl hb 6 (by decide) tyX36 tyX36_ok (by decide +kernel) q2418 (fun _ z => z) rfl rfl rfl rfl rfl (by show 6 < 7; decide) dX36_init_2 ?_
  refine nd_aload_n hC dX36_init_5 rfl rfl ?_
  refine nd_aload_n hC dX36_init_6 rfl rfl ?_
  refine nd_callIN (mm2 := mX25_init) (As := [_]) (mc2 := 2) (ms2 := 10) (d2 := d - 1) hC rfl rfl q769 q201 q2417 q768 rfl lmX25_init (Nat.le_of_ble_eq_true rfl) (by omega) rfl (by exact Nat.le_of_ble_eq_true rfl) (by omega) (by omega) dX36_init_7 rfl ((ni_bestX36 hg (by omega) (List.getElem?_set_self hlt) ?_))
  rw [List.length_set, List.set_set]
  refine nd_return hC rfl (by omega) (by omega) dX36_init_10 (hk)
theorem ni_rowsX38 (hg : nd_OK g) {x0 x1 x2 x3 x4 x5 x6 x7 : Value} (hb : h[b]? = some (.inr (nX38, [x0, x1, x2, x3, x4, x5, x6, x7]))) (hk : K (.inl none) ((h.set b (.inr (nX38, [x0, x1, x2, x3, .ref h.length, .ref 0, x6, x7]))) ++ [.inl (0, 5, .inl (fun _ => 0))])) : nd_M g mX20_init d 1 5 [.ref b, .ref 0] h K := by
  have hlt := nd_get_lt hb
  refine nd_enter hg (by decide) rfl (Nat.le_of_ble_eq_true rfl) (fun X hC => ?_)
  refine nd_aload_n hC dX20_init_0 rfl rfl ?_
  refine nd_aload_n hC dX20_init_1 rfl rfl ?_
  refine nd_putF (ci := nX38) hC in_X38 rfl hb 5 (by decide) tyX38 tyX38_ok (by decide +kernel) q786 (fun _ z => z) rfl rfl rfl rfl rfl (by show 5 < 8; decide) dX20_init_2 ?_
  refine nd_aload_n hC dX20_init_5 rfl rfl ?_
  refine nd_objInit hC q773 q225 q226 (by exact Nat.le_of_ble_eq_true rfl) dX20_init_6 ?_
  refine nd_aload_n hC dX20_init_9 rfl rfl ?_
  refine nd_iconst hC (v := nI 5) (by rfl) dX20_init_10 ?_
  refine nd_newarray hC (atype := .int) (ty := 0) .int (.inl (fun _ => 0)) q322 rfl rfl (fun _ _ => rfl) (N := 5) rfl (by decide) (by decide) (by omega) (by omega) dX20_init_11 ?_
  have hb2 := l_get_app (h := h) (b := b) (A := .inr (nX38, [x0, x1, x2, x3, x4, .ref 0, x6, x7])) (c := .inl (0, 5, .inl (fun _ => 0))) hlt
  refine nd_putF (ci := nX38) hC in_X38 rfl hb2 4 (by decide) tyX38 tyX38_ok (by decide +kernel) q783 (fun _ z => z) rfl rfl rfl rfl rfl (by show 4 < 8; decide) dX20_init_13 ?_
  rw [List.length_set]
  have R9 := hk
  rw [← l_set_app (A := .inr (nX38, [x0, x1, x2, x3, x4, .ref 0, x6, x7])) hlt] at R9
  refine nd_return hC rfl (by omega) (by omega) dX20_init_16 (R9)
theorem ni_bestX38 (hg : nd_OK g) (hd : 1 ≤ d) {x0 x1 x2 x3 x4 x5 x6 x7 : Value} (hb : h[b]? = some (.inr (nX38, [x0, x1, x2, x3, x4, x5, x6, x7]))) (hk : K (.inl none) (((h.set b (.inr (nX38, [.ref (h.length + 1), .int (-1), .long be_min, .ref 0, .ref h.length, .ref 0, x6, x7]))) ++ [.inl (0, 5, .inl (fun _ => 0))]) ++ [.inl (0, 5, .inl (fun _ => 0))])) : nd_M g mX25_init d 2 10 [.ref b, .ref 0] h K := by
  have hlt := nd_get_lt hb
  refine nd_enter hg (by decide) rfl (Nat.le_of_ble_eq_true rfl) (fun X hC => ?_)
  refine nd_aload_n hC dX25_init_0 rfl rfl ?_
  refine nd_aload_n hC dX25_init_1 rfl rfl ?_
  refine nd_putF (ci := nX38) hC in_X38 rfl hb 3 (by decide) tyX38 tyX38_ok (by decide +kernel) q782 (fun _ z => z) rfl rfl rfl rfl rfl (by show 3 < 8; decide) dX25_init_2 ?_
  refine nd_aload_n hC dX25_init_5 rfl rfl ?_
  refine nd_aload_n hC dX25_init_6 rfl rfl ?_
  refine nd_callIN (mm2 := mX20_init) (As := [_]) (mc2 := 1) (ms2 := 5) (d2 := d - 1) hC rfl rfl q772 q190 q770 q771 rfl lmX20_init (Nat.le_of_ble_eq_true rfl) (by omega) rfl (by exact Nat.le_of_ble_eq_true rfl) (by omega) (by omega) dX25_init_7 rfl ((ni_rowsX38 hg (List.getElem?_set_self hlt) ?_))
  rw [List.length_set, List.set_set]
  refine nd_aload_n hC dX25_init_10 rfl rfl ?_
  refine nd_iconst hC (v := nI 5) (by rfl) dX25_init_11 ?_
  refine nd_newarray hC (atype := .int) (ty := 0) .int (.inl (fun _ => 0)) q322 rfl rfl (fun _ _ => rfl) (N := 5) rfl (by decide) (by decide) (by omega) (by omega) dX25_init_12 ?_
  rw [show ((h.set b (.inr (nX38, [x0, x1, x2, .ref 0, .ref h.length, .ref 0, x6, x7]))) ++ [.inl (0, 5, .inl (fun _ => 0))] : nd_H).length = h.length + 1 by rw [List.length_append, List.length_set]; rfl]
  refine nd_putF (ci := nX38) hC in_X38 rfl (l_get_app2 hlt) 0 (by decide) tyX38 tyX38_ok (by decide +kernel) q776 (fun _ z => z) rfl rfl rfl rfl rfl (by show 0 < 8; decide) dX25_init_14 ?_
  rw [l_set_app2 hlt]
  refine nd_aload_n hC dX25_init_17 rfl rfl ?_
  refine nd_iconst hC (v := -1) rfl dX25_init_18 ?_
  refine nd_put (ci := nX38) hC in_X38 rfl (l_get_app2 hlt) 1 (by decide) tyX38 tyX38_ok (by decide +kernel) q777 (fun _ z => z) rfl rfl rfl (by show 1 < 8; decide) dX25_init_19 ?_
  rw [l_set_app2 hlt]
  refine nd_aload_n hC dX25_init_22 rfl rfl ?_
  refine nd_ldc2 hC q774 dX25_init_23 ?_
  refine nd_put (ci := nX38) hC in_X38 rfl (l_get_app2 hlt) 2 (by decide) tyX38 tyX38_ok (by decide +kernel) q780 (fun _ z => z) rfl rfl rfl (by show 2 < 8; decide) dX25_init_26 ?_
  rw [l_set_app2 hlt]
  refine nd_return hC rfl (by omega) (by omega) dX25_init_29 (hk)
theorem ni_X38 (hg : nd_OK g) (hd : 3 ≤ d) {x : Int32} {x0 x1 x2 x3 x4 x5 x6 x7 : Value} (hb : h[b]? = some (.inr (nX38, [x0, x1, x2, x3, x4, x5, x6, x7]))) (hk : K (.inl none) (((h.set b (.inr (nX38, [.ref (h.length + 1), .int (-1), .long be_min, .ref 0, .ref h.length, .ref 0, .int x, .ref 0]))) ++ [.inl (0, 5, .inl (fun _ => 0))]) ++ [.inl (0, 5, .inl (fun _ => 0))])) : nd_M g mX38_init d 2 10 [.ref b, .ref 0, .int x] h K := by
  have hlt := nd_get_lt hb
  refine nd_enter hg (by decide) rfl (Nat.le_of_ble_eq_true rfl) (fun X hC => ?_)
  refine nd_aload_n hC dX38_init_0 rfl rfl ?_
  refine nd_aload_n hC dX38_init_1 rfl rfl ?_
  refine nd_putF (ci := nX38) hC in_X38 rfl hb 7 (by decide) tyX38 tyX38_ok (by decide +kernel) q2470 (fun _ z => z) rfl rfl rfl rfl rfl (by show 7 < 8; decide) dX38_init_2 ?_
  refine nd_aload_n hC dX38_init_5 rfl rfl ?_
  refine nd_iload_n hC dX38_init_6 rfl ?_
  refine nd_putF (ci := nX38) hC in_X38 rfl (List.getElem?_set_self hlt) 6 (by decide) tyX38 tyX38_ok (by decide +kernel) q2469 (fun _ z => z) rfl rfl rfl rfl rfl (by show 6 < 8; decide) dX38_init_7 ?_
  rw [List.set_set]
  refine nd_aload_n hC dX38_init_10 rfl rfl ?_
  refine nd_aload_n hC dX38_init_11 rfl rfl ?_
  refine nd_callIN (mm2 := mX25_init) (As := [_]) (mc2 := 2) (ms2 := 10) (d2 := d - 1) hC rfl rfl q769 q201 q2468 q768 rfl lmX25_init (Nat.le_of_ble_eq_true rfl) (by omega) rfl (by exact Nat.le_of_ble_eq_true rfl) (by omega) (by omega) dX38_init_12 rfl ((ni_bestX38 hg (by omega) (List.getElem?_set_self hlt) ?_))
  rw [List.length_set, List.set_set]
  refine nd_return hC rfl (by omega) (by omega) dX38_init_15 (hk)
theorem ni_rowsX27 (hg : nd_OK g) {x0 x1 x2 x3 x4 x5 x6 x7 : Value} (hb : h[b]? = some (.inr (nX27, [x0, x1, x2, x3, x4, x5, x6, x7]))) (hk : K (.inl none) ((h.set b (.inr (nX27, [x0, x1, x2, x3, .ref h.length, .ref 0, x6, x7]))) ++ [.inl (0, 5, .inl (fun _ => 0))])) : nd_M g mX20_init d 1 5 [.ref b, .ref 0] h K := by
  have hlt := nd_get_lt hb
  refine nd_enter hg (by decide) rfl (Nat.le_of_ble_eq_true rfl) (fun X hC => ?_)
  refine nd_aload_n hC dX20_init_0 rfl rfl ?_
  refine nd_aload_n hC dX20_init_1 rfl rfl ?_
  refine nd_putF (ci := nX27) hC in_X27 rfl hb 5 (by decide) tyX27 tyX27_ok (by decide +kernel) q786 (fun _ z => z) rfl rfl rfl rfl rfl (by show 5 < 8; decide) dX20_init_2 ?_
  refine nd_aload_n hC dX20_init_5 rfl rfl ?_
  refine nd_objInit hC q773 q225 q226 (by exact Nat.le_of_ble_eq_true rfl) dX20_init_6 ?_
  refine nd_aload_n hC dX20_init_9 rfl rfl ?_
  refine nd_iconst hC (v := nI 5) (by rfl) dX20_init_10 ?_
  refine nd_newarray hC (atype := .int) (ty := 0) .int (.inl (fun _ => 0)) q322 rfl rfl (fun _ _ => rfl) (N := 5) rfl (by decide) (by decide) (by omega) (by omega) dX20_init_11 ?_
  have hb2 := l_get_app (h := h) (b := b) (A := .inr (nX27, [x0, x1, x2, x3, x4, .ref 0, x6, x7])) (c := .inl (0, 5, .inl (fun _ => 0))) hlt
  refine nd_putF (ci := nX27) hC in_X27 rfl hb2 4 (by decide) tyX27 tyX27_ok (by decide +kernel) q783 (fun _ z => z) rfl rfl rfl rfl rfl (by show 4 < 8; decide) dX20_init_13 ?_
  rw [List.length_set]
  have R9 := hk
  rw [← l_set_app (A := .inr (nX27, [x0, x1, x2, x3, x4, .ref 0, x6, x7])) hlt] at R9
  refine nd_return hC rfl (by omega) (by omega) dX20_init_16 (R9)
theorem ni_bestX27 (hg : nd_OK g) (hd : 1 ≤ d) {x0 x1 x2 x3 x4 x5 x6 x7 : Value} (hb : h[b]? = some (.inr (nX27, [x0, x1, x2, x3, x4, x5, x6, x7]))) (hk : K (.inl none) (((h.set b (.inr (nX27, [.ref (h.length + 1), .int (-1), .long be_min, .ref 0, .ref h.length, .ref 0, x6, x7]))) ++ [.inl (0, 5, .inl (fun _ => 0))]) ++ [.inl (0, 5, .inl (fun _ => 0))])) : nd_M g mX25_init d 2 10 [.ref b, .ref 0] h K := by
  have hlt := nd_get_lt hb
  refine nd_enter hg (by decide) rfl (Nat.le_of_ble_eq_true rfl) (fun X hC => ?_)
  refine nd_aload_n hC dX25_init_0 rfl rfl ?_
  refine nd_aload_n hC dX25_init_1 rfl rfl ?_
  refine nd_putF (ci := nX27) hC in_X27 rfl hb 3 (by decide) tyX27 tyX27_ok (by decide +kernel) q782 (fun _ z => z) rfl rfl rfl rfl rfl (by show 3 < 8; decide) dX25_init_2 ?_
  refine nd_aload_n hC dX25_init_5 rfl rfl ?_
  refine nd_aload_n hC dX25_init_6 rfl rfl ?_
  refine nd_callIN (mm2 := mX20_init) (As := [_]) (mc2 := 1) (ms2 := 5) (d2 := d - 1) hC rfl rfl q772 q190 q770 q771 rfl lmX20_init (Nat.le_of_ble_eq_true rfl) (by omega) rfl (by exact Nat.le_of_ble_eq_true rfl) (by omega) (by omega) dX25_init_7 rfl ((ni_rowsX27 hg (List.getElem?_set_self hlt) ?_))
  rw [List.length_set, List.set_set]
  refine nd_aload_n hC dX25_init_10 rfl rfl ?_
  refine nd_iconst hC (v := nI 5) (by rfl) dX25_init_11 ?_
  refine nd_newarray hC (atype := .int) (ty := 0) .int (.inl (fun _ => 0)) q322 rfl rfl (fun _ _ => rfl) (N := 5) rfl (by decide) (by decide) (by omega) (by omega) dX25_init_12 ?_
  rw [show ((h.set b (.inr (nX27, [x0, x1, x2, .ref 0, .ref h.length, .ref 0, x6, x7]))) ++ [.inl (0, 5, .inl (fun _ => 0))] : nd_H).length = h.length + 1 by rw [List.length_append, List.length_set]; rfl]
  refine nd_putF (ci := nX27) hC in_X27 rfl (l_get_app2 hlt) 0 (by decide) tyX27 tyX27_ok (by decide +kernel) q776 (fun _ z => z) rfl rfl rfl rfl rfl (by show 0 < 8; decide) dX25_init_14 ?_
  rw [l_set_app2 hlt]
  refine nd_aload_n hC dX25_init_17 rfl rfl ?_
  refine nd_iconst hC (v := -1) rfl dX25_init_18 ?_
  refine nd_put (ci := nX27) hC in_X27 rfl (l_get_app2 hlt) 1 (by decide) tyX27 tyX27_ok (by decide +kernel) q777 (fun _ z => z) rfl rfl rfl (by show 1 < 8; decide) dX25_init_19 ?_
  rw [l_set_app2 hlt]
  refine nd_aload_n hC dX25_init_22 rfl rfl ?_
  refine nd_ldc2 hC q774 dX25_init_23 ?_
  refine nd_put (ci := nX27) hC in_X27 rfl (l_get_app2 hlt) 2 (by decide) tyX27 tyX27_ok (by decide +kernel) q780 (fun _ z => z) rfl rfl rfl (by show 2 < 8; decide) dX25_init_26 ?_
  rw [l_set_app2 hlt]
  refine nd_return hC rfl (by omega) (by omega) dX25_init_29 (hk)
theorem ni_fewX27 (hg : nd_OK g) (hd : 2 ≤ d) {x0 x1 x2 x3 x4 x5 x6 x7 : Value} (hb : h[b]? = some (.inr (nX27, [x0, x1, x2, x3, x4, x5, x6, x7]))) (hk : K (.inl none) (((h.set b (.inr (nX27, [.ref (h.length + 1), .int (-1), .long be_min, .ref 0, .ref h.length, .ref 0, .ref 0, x7]))) ++ [.inl (0, 5, .inl (fun _ => 0))]) ++ [.inl (0, 5, .inl (fun _ => 0))])) : nd_M g mX26_init d 2 10 [.ref b, .ref 0] h K := by
  have hlt := nd_get_lt hb
  refine nd_enter hg (by decide) rfl (Nat.le_of_ble_eq_true rfl) (fun X hC => ?_)
  refine nd_aload_n hC dX26_init_0 rfl rfl ?_
  refine nd_aload_n hC dX26_init_1 rfl rfl ?_
  refine nd_putF (ci := nX27) hC in_X27 rfl hb 6 (by decide) tyX27 tyX27_ok (by decide +kernel) q2202 (fun _ z => z) rfl rfl rfl rfl rfl (by show 6 < 8; decide) dX26_init_2 ?_
  refine nd_aload_n hC dX26_init_5 rfl rfl ?_
  refine nd_aload_n hC dX26_init_6 rfl rfl ?_
  refine nd_callIN (mm2 := mX25_init) (As := [_]) (mc2 := 2) (ms2 := 10) (d2 := d - 1) hC rfl rfl q769 q201 q2200 q768 rfl lmX25_init (Nat.le_of_ble_eq_true rfl) (by omega) rfl (by exact Nat.le_of_ble_eq_true rfl) (by omega) (by omega) dX26_init_7 rfl ((ni_bestX27 hg (by omega) (List.getElem?_set_self hlt) ?_))
  rw [List.length_set, List.set_set]
  refine nd_return hC rfl (by omega) (by omega) dX26_init_10 (hk)
theorem ni_X27 (hg : nd_OK g) (hd : 3 ≤ d) {x0 x1 x2 x3 x4 x5 x6 x7 : Value} (hb : h[b]? = some (.inr (nX27, [x0, x1, x2, x3, x4, x5, x6, x7]))) (hk : K (.inl none) (((h.set b (.inr (nX27, [.ref (h.length + 1), .int (-1), .long be_min, .ref 0, .ref h.length, .ref 0, .ref 0, .ref 0]))) ++ [.inl (0, 5, .inl (fun _ => 0))]) ++ [.inl (0, 5, .inl (fun _ => 0))])) : nd_M g mX27_init d 2 10 [.ref b, .ref 0] h K := by
  have hlt := nd_get_lt hb
  refine nd_enter hg (by decide) rfl (Nat.le_of_ble_eq_true rfl) (fun X hC => ?_)
  refine nd_aload_n hC dX27_init_0 rfl rfl ?_
  refine nd_aload_n hC dX27_init_1 rfl rfl ?_
  refine nd_putF (ci := nX27) hC in_X27 rfl hb 7 (by decide) tyX27 tyX27_ok (by decide +kernel) q2201 (fun _ z => z) rfl rfl rfl rfl rfl (by show 7 < 8; decide) dX27_init_2 ?_
  refine nd_aload_n hC dX27_init_5 rfl rfl ?_
  refine nd_aload_n hC dX27_init_6 rfl rfl ?_
  refine nd_callIN (mm2 := mX26_init) (As := [_]) (mc2 := 2) (ms2 := 10) (d2 := d - 1) hC rfl rfl q2199 q202 q2197 q2198 rfl lmX26_init (Nat.le_of_ble_eq_true rfl) (by omega) rfl (by exact Nat.le_of_ble_eq_true rfl) (by omega) (by omega) dX27_init_7 rfl ((ni_fewX27 hg (by omega) (List.getElem?_set_self hlt) ?_))
  rw [List.length_set, List.set_set]
  refine nd_return hC rfl (by omega) (by omega) dX27_init_10 (hk)
theorem ni_rowsX30 (hg : nd_OK g) {x0 x1 x2 x3 x4 x5 x6 x7 x8 : Value} (hb : h[b]? = some (.inr (nX30, [x0, x1, x2, x3, x4, x5, x6, x7, x8]))) (hk : K (.inl none) ((h.set b (.inr (nX30, [x0, x1, x2, x3, .ref h.length, .ref 0, x6, x7, x8]))) ++ [.inl (0, 5, .inl (fun _ => 0))])) : nd_M g mX20_init d 1 5 [.ref b, .ref 0] h K := by
  have hlt := nd_get_lt hb
  refine nd_enter hg (by decide) rfl (Nat.le_of_ble_eq_true rfl) (fun X hC => ?_)
  refine nd_aload_n hC dX20_init_0 rfl rfl ?_
  refine nd_aload_n hC dX20_init_1 rfl rfl ?_
  refine nd_putF (ci := nX30) hC in_X30 rfl hb 5 (by decide) tyX30 tyX30_ok (by decide +kernel) q786 (fun _ z => z) rfl rfl rfl rfl rfl (by show 5 < 9; decide) dX20_init_2 ?_
  refine nd_aload_n hC dX20_init_5 rfl rfl ?_
  refine nd_objInit hC q773 q225 q226 (by exact Nat.le_of_ble_eq_true rfl) dX20_init_6 ?_
  refine nd_aload_n hC dX20_init_9 rfl rfl ?_
  refine nd_iconst hC (v := nI 5) (by rfl) dX20_init_10 ?_
  refine nd_newarray hC (atype := .int) (ty := 0) .int (.inl (fun _ => 0)) q322 rfl rfl (fun _ _ => rfl) (N := 5) rfl (by decide) (by decide) (by omega) (by omega) dX20_init_11 ?_
  have hb2 := l_get_app (h := h) (b := b) (A := .inr (nX30, [x0, x1, x2, x3, x4, .ref 0, x6, x7, x8])) (c := .inl (0, 5, .inl (fun _ => 0))) hlt
  refine nd_putF (ci := nX30) hC in_X30 rfl hb2 4 (by decide) tyX30 tyX30_ok (by decide +kernel) q783 (fun _ z => z) rfl rfl rfl rfl rfl (by show 4 < 9; decide) dX20_init_13 ?_
  rw [List.length_set]
  have R9 := hk
  rw [← l_set_app (A := .inr (nX30, [x0, x1, x2, x3, x4, .ref 0, x6, x7, x8])) hlt] at R9
  refine nd_return hC rfl (by omega) (by omega) dX20_init_16 (R9)
theorem ni_bestX30 (hg : nd_OK g) (hd : 1 ≤ d) {x0 x1 x2 x3 x4 x5 x6 x7 x8 : Value} (hb : h[b]? = some (.inr (nX30, [x0, x1, x2, x3, x4, x5, x6, x7, x8]))) (hk : K (.inl none) (((h.set b (.inr (nX30, [.ref (h.length + 1), .int (-1), .long be_min, .ref 0, .ref h.length, .ref 0, x6, x7, x8]))) ++ [.inl (0, 5, .inl (fun _ => 0))]) ++ [.inl (0, 5, .inl (fun _ => 0))])) : nd_M g mX25_init d 2 10 [.ref b, .ref 0] h K := by
  have hlt := nd_get_lt hb
  refine nd_enter hg (by decide) rfl (Nat.le_of_ble_eq_true rfl) (fun X hC => ?_)
  refine nd_aload_n hC dX25_init_0 rfl rfl ?_
  refine nd_aload_n hC dX25_init_1 rfl rfl ?_
  refine nd_putF (ci := nX30) hC in_X30 rfl hb 3 (by decide) tyX30 tyX30_ok (by decide +kernel) q782 (fun _ z => z) rfl rfl rfl rfl rfl (by show 3 < 9; decide) dX25_init_2 ?_
  refine nd_aload_n hC dX25_init_5 rfl rfl ?_
  refine nd_aload_n hC dX25_init_6 rfl rfl ?_
  refine nd_callIN (mm2 := mX20_init) (As := [_]) (mc2 := 1) (ms2 := 5) (d2 := d - 1) hC rfl rfl q772 q190 q770 q771 rfl lmX20_init (Nat.le_of_ble_eq_true rfl) (by omega) rfl (by exact Nat.le_of_ble_eq_true rfl) (by omega) (by omega) dX25_init_7 rfl ((ni_rowsX30 hg (List.getElem?_set_self hlt) ?_))
  rw [List.length_set, List.set_set]
  refine nd_aload_n hC dX25_init_10 rfl rfl ?_
  refine nd_iconst hC (v := nI 5) (by rfl) dX25_init_11 ?_
  refine nd_newarray hC (atype := .int) (ty := 0) .int (.inl (fun _ => 0)) q322 rfl rfl (fun _ _ => rfl) (N := 5) rfl (by decide) (by decide) (by omega) (by omega) dX25_init_12 ?_
  rw [show ((h.set b (.inr (nX30, [x0, x1, x2, .ref 0, .ref h.length, .ref 0, x6, x7, x8]))) ++ [.inl (0, 5, .inl (fun _ => 0))] : nd_H).length = h.length + 1 by rw [List.length_append, List.length_set]; rfl]
  refine nd_putF (ci := nX30) hC in_X30 rfl (l_get_app2 hlt) 0 (by decide) tyX30 tyX30_ok (by decide +kernel) q776 (fun _ z => z) rfl rfl rfl rfl rfl (by show 0 < 9; decide) dX25_init_14 ?_
  rw [l_set_app2 hlt]
  refine nd_aload_n hC dX25_init_17 rfl rfl ?_
  refine nd_iconst hC (v := -1) rfl dX25_init_18 ?_
  refine nd_put (ci := nX30) hC in_X30 rfl (l_get_app2 hlt) 1 (by decide) tyX30 tyX30_ok (by decide +kernel) q777 (fun _ z => z) rfl rfl rfl (by show 1 < 9; decide) dX25_init_19 ?_
  rw [l_set_app2 hlt]
  refine nd_aload_n hC dX25_init_22 rfl rfl ?_
  refine nd_ldc2 hC q774 dX25_init_23 ?_
  refine nd_put (ci := nX30) hC in_X30 rfl (l_get_app2 hlt) 2 (by decide) tyX30 tyX30_ok (by decide +kernel) q780 (fun _ z => z) rfl rfl rfl (by show 2 < 9; decide) dX25_init_26 ?_
  rw [l_set_app2 hlt]
  refine nd_return hC rfl (by omega) (by omega) dX25_init_29 (hk)
theorem ni_fewX30 (hg : nd_OK g) (hd : 2 ≤ d) {x0 x1 x2 x3 x4 x5 x6 x7 x8 : Value} (hb : h[b]? = some (.inr (nX30, [x0, x1, x2, x3, x4, x5, x6, x7, x8]))) (hk : K (.inl none) (((h.set b (.inr (nX30, [.ref (h.length + 1), .int (-1), .long be_min, .ref 0, .ref h.length, .ref 0, .ref 0, x7, x8]))) ++ [.inl (0, 5, .inl (fun _ => 0))]) ++ [.inl (0, 5, .inl (fun _ => 0))])) : nd_M g mX26_init d 2 10 [.ref b, .ref 0] h K := by
  have hlt := nd_get_lt hb
  refine nd_enter hg (by decide) rfl (Nat.le_of_ble_eq_true rfl) (fun X hC => ?_)
  refine nd_aload_n hC dX26_init_0 rfl rfl ?_
  refine nd_aload_n hC dX26_init_1 rfl rfl ?_
  refine nd_putF (ci := nX30) hC in_X30 rfl hb 6 (by decide) tyX30 tyX30_ok (by decide +kernel) q2202 (fun _ z => z) rfl rfl rfl rfl rfl (by show 6 < 9; decide) dX26_init_2 ?_
  refine nd_aload_n hC dX26_init_5 rfl rfl ?_
  refine nd_aload_n hC dX26_init_6 rfl rfl ?_
  refine nd_callIN (mm2 := mX25_init) (As := [_]) (mc2 := 2) (ms2 := 10) (d2 := d - 1) hC rfl rfl q769 q201 q2200 q768 rfl lmX25_init (Nat.le_of_ble_eq_true rfl) (by omega) rfl (by exact Nat.le_of_ble_eq_true rfl) (by omega) (by omega) dX26_init_7 rfl ((ni_bestX30 hg (by omega) (List.getElem?_set_self hlt) ?_))
  rw [List.length_set, List.set_set]
  refine nd_return hC rfl (by omega) (by omega) dX26_init_10 (hk)
theorem ni_X30 (hg : nd_OK g) (hd : 3 ≤ d) {va : Nat} {x0 x1 x2 x3 x4 x5 x6 x7 x8 : Value} (hb : h[b]? = some (.inr (nX30, [x0, x1, x2, x3, x4, x5, x6, x7, x8]))) (hk : K (.inl none) (((h.set b (.inr (nX30, [.ref (h.length + 1), .int (-1), .long be_min, .ref 0, .ref h.length, .ref 0, .ref 0, .ref va, .ref 0]))) ++ [.inl (0, 5, .inl (fun _ => 0))]) ++ [.inl (0, 5, .inl (fun _ => 0))])) : nd_M g mX30_init d 2 10 [.ref b, .ref 0, .ref va] h K := by
  have hlt := nd_get_lt hb
  refine nd_enter hg (by decide) rfl (Nat.le_of_ble_eq_true rfl) (fun X hC => ?_)
  refine nd_aload_n hC dX30_init_0 rfl rfl ?_
  refine nd_aload_n hC dX30_init_1 rfl rfl ?_
  refine nd_putF (ci := nX30) hC in_X30 rfl hb 8 (by decide) tyX30 tyX30_ok (by decide +kernel) q2297 (fun _ z => z) rfl rfl rfl rfl rfl (by show 8 < 9; decide) dX30_init_2 ?_
  refine nd_aload_n hC dX30_init_5 rfl rfl ?_
  refine nd_aload_n hC dX30_init_6 rfl rfl ?_
  refine nd_putF (ci := nX30) hC in_X30 rfl (List.getElem?_set_self hlt) 7 (by decide) tyX30 tyX30_ok (by decide +kernel) q2296 (fun _ z => z) rfl rfl rfl rfl rfl (by show 7 < 9; decide) dX30_init_7 ?_
  rw [List.set_set]
  refine nd_aload_n hC dX30_init_10 rfl rfl ?_
  refine nd_aload_n hC dX30_init_11 rfl rfl ?_
  refine nd_callIN (mm2 := mX26_init) (As := [_]) (mc2 := 2) (ms2 := 10) (d2 := d - 1) hC rfl rfl q2199 q202 q2295 q2198 rfl lmX26_init (Nat.le_of_ble_eq_true rfl) (by omega) rfl (by exact Nat.le_of_ble_eq_true rfl) (by omega) (by omega) dX30_init_12 rfl ((ni_fewX30 hg (by omega) (List.getElem?_set_self hlt) ?_))
  rw [List.length_set, List.set_set]
  refine nd_return hC rfl (by omega) (by omega) dX30_init_15 (hk)
theorem ni_rowsX31 (hg : nd_OK g) {x0 x1 x2 x3 x4 x5 x6 x7 x8 : Value} (hb : h[b]? = some (.inr (nX31, [x0, x1, x2, x3, x4, x5, x6, x7, x8]))) (hk : K (.inl none) ((h.set b (.inr (nX31, [x0, x1, x2, x3, .ref h.length, .ref 0, x6, x7, x8]))) ++ [.inl (0, 5, .inl (fun _ => 0))])) : nd_M g mX20_init d 1 5 [.ref b, .ref 0] h K := by
  have hlt := nd_get_lt hb
  refine nd_enter hg (by decide) rfl (Nat.le_of_ble_eq_true rfl) (fun X hC => ?_)
  refine nd_aload_n hC dX20_init_0 rfl rfl ?_
  refine nd_aload_n hC dX20_init_1 rfl rfl ?_
  refine nd_putF (ci := nX31) hC in_X31 rfl hb 5 (by decide) tyX31 tyX31_ok (by decide +kernel) q786 (fun _ z => z) rfl rfl rfl rfl rfl (by show 5 < 9; decide) dX20_init_2 ?_
  refine nd_aload_n hC dX20_init_5 rfl rfl ?_
  refine nd_objInit hC q773 q225 q226 (by exact Nat.le_of_ble_eq_true rfl) dX20_init_6 ?_
  refine nd_aload_n hC dX20_init_9 rfl rfl ?_
  refine nd_iconst hC (v := nI 5) (by rfl) dX20_init_10 ?_
  refine nd_newarray hC (atype := .int) (ty := 0) .int (.inl (fun _ => 0)) q322 rfl rfl (fun _ _ => rfl) (N := 5) rfl (by decide) (by decide) (by omega) (by omega) dX20_init_11 ?_
  have hb2 := l_get_app (h := h) (b := b) (A := .inr (nX31, [x0, x1, x2, x3, x4, .ref 0, x6, x7, x8])) (c := .inl (0, 5, .inl (fun _ => 0))) hlt
  refine nd_putF (ci := nX31) hC in_X31 rfl hb2 4 (by decide) tyX31 tyX31_ok (by decide +kernel) q783 (fun _ z => z) rfl rfl rfl rfl rfl (by show 4 < 9; decide) dX20_init_13 ?_
  rw [List.length_set]
  have R9 := hk
  rw [← l_set_app (A := .inr (nX31, [x0, x1, x2, x3, x4, .ref 0, x6, x7, x8])) hlt] at R9
  refine nd_return hC rfl (by omega) (by omega) dX20_init_16 (R9)
theorem ni_bestX31 (hg : nd_OK g) (hd : 1 ≤ d) {x0 x1 x2 x3 x4 x5 x6 x7 x8 : Value} (hb : h[b]? = some (.inr (nX31, [x0, x1, x2, x3, x4, x5, x6, x7, x8]))) (hk : K (.inl none) (((h.set b (.inr (nX31, [.ref (h.length + 1), .int (-1), .long be_min, .ref 0, .ref h.length, .ref 0, x6, x7, x8]))) ++ [.inl (0, 5, .inl (fun _ => 0))]) ++ [.inl (0, 5, .inl (fun _ => 0))])) : nd_M g mX25_init d 2 10 [.ref b, .ref 0] h K := by
  have hlt := nd_get_lt hb
  refine nd_enter hg (by decide) rfl (Nat.le_of_ble_eq_true rfl) (fun X hC => ?_)
  refine nd_aload_n hC dX25_init_0 rfl rfl ?_
  refine nd_aload_n hC dX25_init_1 rfl rfl ?_
  refine nd_putF (ci := nX31) hC in_X31 rfl hb 3 (by decide) tyX31 tyX31_ok (by decide +kernel) q782 (fun _ z => z) rfl rfl rfl rfl rfl (by show 3 < 9; decide) dX25_init_2 ?_
  refine nd_aload_n hC dX25_init_5 rfl rfl ?_
  refine nd_aload_n hC dX25_init_6 rfl rfl ?_
  refine nd_callIN (mm2 := mX20_init) (As := [_]) (mc2 := 1) (ms2 := 5) (d2 := d - 1) hC rfl rfl q772 q190 q770 q771 rfl lmX20_init (Nat.le_of_ble_eq_true rfl) (by omega) rfl (by exact Nat.le_of_ble_eq_true rfl) (by omega) (by omega) dX25_init_7 rfl ((ni_rowsX31 hg (List.getElem?_set_self hlt) ?_))
  rw [List.length_set, List.set_set]
  refine nd_aload_n hC dX25_init_10 rfl rfl ?_
  refine nd_iconst hC (v := nI 5) (by rfl) dX25_init_11 ?_
  refine nd_newarray hC (atype := .int) (ty := 0) .int (.inl (fun _ => 0)) q322 rfl rfl (fun _ _ => rfl) (N := 5) rfl (by decide) (by decide) (by omega) (by omega) dX25_init_12 ?_
  rw [show ((h.set b (.inr (nX31, [x0, x1, x2, .ref 0, .ref h.length, .ref 0, x6, x7, x8]))) ++ [.inl (0, 5, .inl (fun _ => 0))] : nd_H).length = h.length + 1 by rw [List.length_append, List.length_set]; rfl]
  refine nd_putF (ci := nX31) hC in_X31 rfl (l_get_app2 hlt) 0 (by decide) tyX31 tyX31_ok (by decide +kernel) q776 (fun _ z => z) rfl rfl rfl rfl rfl (by show 0 < 9; decide) dX25_init_14 ?_
  rw [l_set_app2 hlt]
  refine nd_aload_n hC dX25_init_17 rfl rfl ?_
  refine nd_iconst hC (v := -1) rfl dX25_init_18 ?_
  refine nd_put (ci := nX31) hC in_X31 rfl (l_get_app2 hlt) 1 (by decide) tyX31 tyX31_ok (by decide +kernel) q777 (fun _ z => z) rfl rfl rfl (by show 1 < 9; decide) dX25_init_19 ?_
  rw [l_set_app2 hlt]
  refine nd_aload_n hC dX25_init_22 rfl rfl ?_
  refine nd_ldc2 hC q774 dX25_init_23 ?_
  refine nd_put (ci := nX31) hC in_X31 rfl (l_get_app2 hlt) 2 (by decide) tyX31 tyX31_ok (by decide +kernel) q780 (fun _ z => z) rfl rfl rfl (by show 2 < 9; decide) dX25_init_26 ?_
  rw [l_set_app2 hlt]
  refine nd_return hC rfl (by omega) (by omega) dX25_init_29 (hk)
theorem ni_fewX31 (hg : nd_OK g) (hd : 2 ≤ d) {x0 x1 x2 x3 x4 x5 x6 x7 x8 : Value} (hb : h[b]? = some (.inr (nX31, [x0, x1, x2, x3, x4, x5, x6, x7, x8]))) (hk : K (.inl none) (((h.set b (.inr (nX31, [.ref (h.length + 1), .int (-1), .long be_min, .ref 0, .ref h.length, .ref 0, .ref 0, x7, x8]))) ++ [.inl (0, 5, .inl (fun _ => 0))]) ++ [.inl (0, 5, .inl (fun _ => 0))])) : nd_M g mX26_init d 2 10 [.ref b, .ref 0] h K := by
  have hlt := nd_get_lt hb
  refine nd_enter hg (by decide) rfl (Nat.le_of_ble_eq_true rfl) (fun X hC => ?_)
  refine nd_aload_n hC dX26_init_0 rfl rfl ?_
  refine nd_aload_n hC dX26_init_1 rfl rfl ?_
  refine nd_putF (ci := nX31) hC in_X31 rfl hb 6 (by decide) tyX31 tyX31_ok (by decide +kernel) q2202 (fun _ z => z) rfl rfl rfl rfl rfl (by show 6 < 9; decide) dX26_init_2 ?_
  refine nd_aload_n hC dX26_init_5 rfl rfl ?_
  refine nd_aload_n hC dX26_init_6 rfl rfl ?_
  refine nd_callIN (mm2 := mX25_init) (As := [_]) (mc2 := 2) (ms2 := 10) (d2 := d - 1) hC rfl rfl q769 q201 q2200 q768 rfl lmX25_init (Nat.le_of_ble_eq_true rfl) (by omega) rfl (by exact Nat.le_of_ble_eq_true rfl) (by omega) (by omega) dX26_init_7 rfl ((ni_bestX31 hg (by omega) (List.getElem?_set_self hlt) ?_))
  rw [List.length_set, List.set_set]
  refine nd_return hC rfl (by omega) (by omega) dX26_init_10 (hk)
theorem ni_X31 (hg : nd_OK g) (hd : 3 ≤ d) {va : Nat} {x0 x1 x2 x3 x4 x5 x6 x7 x8 : Value} (hb : h[b]? = some (.inr (nX31, [x0, x1, x2, x3, x4, x5, x6, x7, x8]))) (hk : K (.inl none) (((h.set b (.inr (nX31, [.ref (h.length + 1), .int (-1), .long be_min, .ref 0, .ref h.length, .ref 0, .ref 0, .ref va, .ref 0]))) ++ [.inl (0, 5, .inl (fun _ => 0))]) ++ [.inl (0, 5, .inl (fun _ => 0))])) : nd_M g mX31_init d 2 10 [.ref b, .ref 0, .ref va] h K := by
  have hlt := nd_get_lt hb
  refine nd_enter hg (by decide) rfl (Nat.le_of_ble_eq_true rfl) (fun X hC => ?_)
  refine nd_aload_n hC dX31_init_0 rfl rfl ?_
  refine nd_aload_n hC dX31_init_1 rfl rfl ?_
  refine nd_putF (ci := nX31) hC in_X31 rfl hb 8 (by decide) tyX31 tyX31_ok (by decide +kernel) q2335 (fun _ z => z) rfl rfl rfl rfl rfl (by show 8 < 9; decide) dX31_init_2 ?_
  refine nd_aload_n hC dX31_init_5 rfl rfl ?_
  refine nd_aload_n hC dX31_init_6 rfl rfl ?_
  refine nd_putF (ci := nX31) hC in_X31 rfl (List.getElem?_set_self hlt) 7 (by decide) tyX31 tyX31_ok (by decide +kernel) q2334 (fun _ z => z) rfl rfl rfl rfl rfl (by show 7 < 9; decide) dX31_init_7 ?_
  rw [List.set_set]
  refine nd_aload_n hC dX31_init_10 rfl rfl ?_
  refine nd_aload_n hC dX31_init_11 rfl rfl ?_
  refine nd_callIN (mm2 := mX26_init) (As := [_]) (mc2 := 2) (ms2 := 10) (d2 := d - 1) hC rfl rfl q2199 q202 q2333 q2198 rfl lmX26_init (Nat.le_of_ble_eq_true rfl) (by omega) rfl (by exact Nat.le_of_ble_eq_true rfl) (by omega) (by omega) dX31_init_12 rfl ((ni_fewX31 hg (by omega) (List.getElem?_set_self hlt) ?_))
  rw [List.length_set, List.set_set]
  refine nd_return hC rfl (by omega) (by omega) dX31_init_15 (hk)
theorem ni_rowsX34 (hg : nd_OK g) {x0 x1 x2 x3 x4 x5 x6 x7 x8 : Value} (hb : h[b]? = some (.inr (nX34, [x0, x1, x2, x3, x4, x5, x6, x7, x8]))) (hk : K (.inl none) ((h.set b (.inr (nX34, [x0, x1, x2, x3, .ref h.length, .ref 0, x6, x7, x8]))) ++ [.inl (0, 5, .inl (fun _ => 0))])) : nd_M g mX20_init d 1 5 [.ref b, .ref 0] h K := by
  have hlt := nd_get_lt hb
  refine nd_enter hg (by decide) rfl (Nat.le_of_ble_eq_true rfl) (fun X hC => ?_)
  refine nd_aload_n hC dX20_init_0 rfl rfl ?_
  refine nd_aload_n hC dX20_init_1 rfl rfl ?_
  refine nd_putF (ci := nX34) hC in_X34 rfl hb 5 (by decide) tyX34 tyX34_ok (by decide +kernel) q786 (fun _ z => z) rfl rfl rfl rfl rfl (by show 5 < 9; decide) dX20_init_2 ?_
  refine nd_aload_n hC dX20_init_5 rfl rfl ?_
  refine nd_objInit hC q773 q225 q226 (by exact Nat.le_of_ble_eq_true rfl) dX20_init_6 ?_
  refine nd_aload_n hC dX20_init_9 rfl rfl ?_
  refine nd_iconst hC (v := nI 5) (by rfl) dX20_init_10 ?_
  refine nd_newarray hC (atype := .int) (ty := 0) .int (.inl (fun _ => 0)) q322 rfl rfl (fun _ _ => rfl) (N := 5) rfl (by decide) (by decide) (by omega) (by omega) dX20_init_11 ?_
  have hb2 := l_get_app (h := h) (b := b) (A := .inr (nX34, [x0, x1, x2, x3, x4, .ref 0, x6, x7, x8])) (c := .inl (0, 5, .inl (fun _ => 0))) hlt
  refine nd_putF (ci := nX34) hC in_X34 rfl hb2 4 (by decide) tyX34 tyX34_ok (by decide +kernel) q783 (fun _ z => z) rfl rfl rfl rfl rfl (by show 4 < 9; decide) dX20_init_13 ?_
  rw [List.length_set]
  have R9 := hk
  rw [← l_set_app (A := .inr (nX34, [x0, x1, x2, x3, x4, .ref 0, x6, x7, x8])) hlt] at R9
  refine nd_return hC rfl (by omega) (by omega) dX20_init_16 (R9)
theorem ni_bestX34 (hg : nd_OK g) (hd : 1 ≤ d) {x0 x1 x2 x3 x4 x5 x6 x7 x8 : Value} (hb : h[b]? = some (.inr (nX34, [x0, x1, x2, x3, x4, x5, x6, x7, x8]))) (hk : K (.inl none) (((h.set b (.inr (nX34, [.ref (h.length + 1), .int (-1), .long be_min, .ref 0, .ref h.length, .ref 0, x6, x7, x8]))) ++ [.inl (0, 5, .inl (fun _ => 0))]) ++ [.inl (0, 5, .inl (fun _ => 0))])) : nd_M g mX25_init d 2 10 [.ref b, .ref 0] h K := by
  have hlt := nd_get_lt hb
  refine nd_enter hg (by decide) rfl (Nat.le_of_ble_eq_true rfl) (fun X hC => ?_)
  refine nd_aload_n hC dX25_init_0 rfl rfl ?_
  refine nd_aload_n hC dX25_init_1 rfl rfl ?_
  refine nd_putF (ci := nX34) hC in_X34 rfl hb 3 (by decide) tyX34 tyX34_ok (by decide +kernel) q782 (fun _ z => z) rfl rfl rfl rfl rfl (by show 3 < 9; decide) dX25_init_2 ?_
  refine nd_aload_n hC dX25_init_5 rfl rfl ?_
  refine nd_aload_n hC dX25_init_6 rfl rfl ?_
  refine nd_callIN (mm2 := mX20_init) (As := [_]) (mc2 := 1) (ms2 := 5) (d2 := d - 1) hC rfl rfl q772 q190 q770 q771 rfl lmX20_init (Nat.le_of_ble_eq_true rfl) (by omega) rfl (by exact Nat.le_of_ble_eq_true rfl) (by omega) (by omega) dX25_init_7 rfl ((ni_rowsX34 hg (List.getElem?_set_self hlt) ?_))
  rw [List.length_set, List.set_set]
  refine nd_aload_n hC dX25_init_10 rfl rfl ?_
  refine nd_iconst hC (v := nI 5) (by rfl) dX25_init_11 ?_
  refine nd_newarray hC (atype := .int) (ty := 0) .int (.inl (fun _ => 0)) q322 rfl rfl (fun _ _ => rfl) (N := 5) rfl (by decide) (by decide) (by omega) (by omega) dX25_init_12 ?_
  rw [show ((h.set b (.inr (nX34, [x0, x1, x2, .ref 0, .ref h.length, .ref 0, x6, x7, x8]))) ++ [.inl (0, 5, .inl (fun _ => 0))] : nd_H).length = h.length + 1 by rw [List.length_append, List.length_set]; rfl]
  refine nd_putF (ci := nX34) hC in_X34 rfl (l_get_app2 hlt) 0 (by decide) tyX34 tyX34_ok (by decide +kernel) q776 (fun _ z => z) rfl rfl rfl rfl rfl (by show 0 < 9; decide) dX25_init_14 ?_
  rw [l_set_app2 hlt]
  refine nd_aload_n hC dX25_init_17 rfl rfl ?_
  refine nd_iconst hC (v := -1) rfl dX25_init_18 ?_
  refine nd_put (ci := nX34) hC in_X34 rfl (l_get_app2 hlt) 1 (by decide) tyX34 tyX34_ok (by decide +kernel) q777 (fun _ z => z) rfl rfl rfl (by show 1 < 9; decide) dX25_init_19 ?_
  rw [l_set_app2 hlt]
  refine nd_aload_n hC dX25_init_22 rfl rfl ?_
  refine nd_ldc2 hC q774 dX25_init_23 ?_
  refine nd_put (ci := nX34) hC in_X34 rfl (l_get_app2 hlt) 2 (by decide) tyX34 tyX34_ok (by decide +kernel) q780 (fun _ z => z) rfl rfl rfl (by show 2 < 9; decide) dX25_init_26 ?_
  rw [l_set_app2 hlt]
  refine nd_return hC rfl (by omega) (by omega) dX25_init_29 (hk)
theorem ni_fewX34 (hg : nd_OK g) (hd : 2 ≤ d) {x0 x1 x2 x3 x4 x5 x6 x7 x8 : Value} (hb : h[b]? = some (.inr (nX34, [x0, x1, x2, x3, x4, x5, x6, x7, x8]))) (hk : K (.inl none) (((h.set b (.inr (nX34, [.ref (h.length + 1), .int (-1), .long be_min, .ref 0, .ref h.length, .ref 0, .ref 0, x7, x8]))) ++ [.inl (0, 5, .inl (fun _ => 0))]) ++ [.inl (0, 5, .inl (fun _ => 0))])) : nd_M g mX26_init d 2 10 [.ref b, .ref 0] h K := by
  have hlt := nd_get_lt hb
  refine nd_enter hg (by decide) rfl (Nat.le_of_ble_eq_true rfl) (fun X hC => ?_)
  refine nd_aload_n hC dX26_init_0 rfl rfl ?_
  refine nd_aload_n hC dX26_init_1 rfl rfl ?_
  refine nd_putF (ci := nX34) hC in_X34 rfl hb 6 (by decide) tyX34 tyX34_ok (by decide +kernel) q2202 (fun _ z => z) rfl rfl rfl rfl rfl (by show 6 < 9; decide) dX26_init_2 ?_
  refine nd_aload_n hC dX26_init_5 rfl rfl ?_
  refine nd_aload_n hC dX26_init_6 rfl rfl ?_
  refine nd_callIN (mm2 := mX25_init) (As := [_]) (mc2 := 2) (ms2 := 10) (d2 := d - 1) hC rfl rfl q769 q201 q2200 q768 rfl lmX25_init (Nat.le_of_ble_eq_true rfl) (by omega) rfl (by exact Nat.le_of_ble_eq_true rfl) (by omega) (by omega) dX26_init_7 rfl ((ni_bestX34 hg (by omega) (List.getElem?_set_self hlt) ?_))
  rw [List.length_set, List.set_set]
  refine nd_return hC rfl (by omega) (by omega) dX26_init_10 (hk)
theorem ni_X34 (hg : nd_OK g) (hd : 3 ≤ d) {x : Int32} {x0 x1 x2 x3 x4 x5 x6 x7 x8 : Value} (hb : h[b]? = some (.inr (nX34, [x0, x1, x2, x3, x4, x5, x6, x7, x8]))) (hk : K (.inl none) (((h.set b (.inr (nX34, [.ref (h.length + 1), .int (-1), .long be_min, .ref 0, .ref h.length, .ref 0, .ref 0, .int x, .ref 0]))) ++ [.inl (0, 5, .inl (fun _ => 0))]) ++ [.inl (0, 5, .inl (fun _ => 0))])) : nd_M g mX34_init d 2 10 [.ref b, .ref 0, .int x] h K := by
  have hlt := nd_get_lt hb
  refine nd_enter hg (by decide) rfl (Nat.le_of_ble_eq_true rfl) (fun X hC => ?_)
  refine nd_aload_n hC dX34_init_0 rfl rfl ?_
  refine nd_aload_n hC dX34_init_1 rfl rfl ?_
  refine nd_putF (ci := nX34) hC in_X34 rfl hb 8 (by decide) tyX34 tyX34_ok (by decide +kernel) q2391 (fun _ z => z) rfl rfl rfl rfl rfl (by show 8 < 9; decide) dX34_init_2 ?_
  refine nd_aload_n hC dX34_init_5 rfl rfl ?_
  refine nd_iload_n hC dX34_init_6 rfl ?_
  refine nd_putF (ci := nX34) hC in_X34 rfl (List.getElem?_set_self hlt) 7 (by decide) tyX34 tyX34_ok (by decide +kernel) q2390 (fun _ z => z) rfl rfl rfl rfl rfl (by show 7 < 9; decide) dX34_init_7 ?_
  rw [List.set_set]
  refine nd_aload_n hC dX34_init_10 rfl rfl ?_
  refine nd_aload_n hC dX34_init_11 rfl rfl ?_
  refine nd_callIN (mm2 := mX26_init) (As := [_]) (mc2 := 2) (ms2 := 10) (d2 := d - 1) hC rfl rfl q2199 q202 q2389 q2198 rfl lmX26_init (Nat.le_of_ble_eq_true rfl) (by omega) rfl (by exact Nat.le_of_ble_eq_true rfl) (by omega) (by omega) dX34_init_12 rfl ((ni_fewX34 hg (by omega) (List.getElem?_set_self hlt) ?_))
  rw [List.length_set, List.set_set]
  refine nd_return hC rfl (by omega) (by omega) dX34_init_15 (hk)
end IN89

