set_option maxRecDepth 100000
/-! ===== constructors of the searches ===== -/
theorem l_set_app {h : nd_H} {b : Nat} {A B c : nd_C} (hb : b < h.length) : ((h.set b A) ++ [c]).set b B = (h.set b B) ++ [c] := by
  rw [List.set_append_left _ _ (by rw [List.length_set]; exact hb), List.set_set]
theorem l_get_app {h : nd_H} {b : Nat} {A c : nd_C} (hb : b < h.length) : ((h.set b A) ++ [c])[b]? = some A := by
  rw [List.getElem?_append_left (by rw [List.length_set]; exact hb), List.getElem?_set_self hb]
section IN88
variable {g : nd_G} {d : Nat} {K : nd_K} {h : nd_H} {b : Nat}
theorem ni_rowsX22 (hg : nd_OK g) {x0 x1 x2 x3 x4 x5 : Value} (hb : h[b]? = some (.inr (nX22, [x0, x1, x2, x3, x4, x5]))) (hk : K (.inl none) ((h.set b (.inr (nX22, [x0, x1, .ref h.length, .ref 0, x4, x5]))) ++ [.inl (0, 5, .inl (fun _ => 0))])) : nd_M g mX20_init d 1 5 [.ref b, .ref 0] h K := by
  have hlt := nd_get_lt hb
  refine nd_enter hg (by decide) rfl (Nat.le_of_ble_eq_true rfl) (fun X hC => ?_)
  refine nd_aload_n hC dX20_init_0 rfl rfl ?_
  refine nd_aload_n hC dX20_init_1 rfl rfl ?_
  refine nd_putF (ci := nX22) hC in_X22 rfl hb 3 (by decide) tyX22 tyX22_ok (by decide +kernel) q786 (fun _ z => z) rfl rfl rfl rfl rfl (by show 3 < 6; decide) dX20_init_2 ?_
  refine nd_aload_n hC dX20_init_5 rfl rfl ?_
  refine nd_objInit hC q773 q225 q226 (by exact Nat.le_of_ble_eq_true rfl) dX20_init_6 ?_
  refine nd_aload_n hC dX20_init_9 rfl rfl ?_
  refine nd_iconst hC (v := nI 5) (by rfl) dX20_init_10 ?_
  refine nd_newarray hC (atype := .int) (ty := 0) .int (.inl (fun _ => 0)) q322 rfl rfl (fun _ _ => rfl) (N := 5) rfl (by decide) (by decide) (by omega) (by omega) dX20_init_11 ?_
  have hb2 := l_get_app (h := h) (b := b) (A := .inr (nX22, [x0, x1, x2, .ref 0, x4, x5])) (c := .inl (0, 5, .inl (fun _ => 0))) hlt
  refine nd_putF (ci := nX22) hC in_X22 rfl hb2 2 (by decide) tyX22 tyX22_ok (by decide +kernel) q783 (fun _ z => z) rfl rfl rfl rfl rfl (by show 2 < 6; decide) dX20_init_13 ?_
  rw [List.length_set]
  have R9 := hk
  rw [← l_set_app (A := .inr (nX22, [x0, x1, x2, .ref 0, x4, x5])) hlt] at R9
  refine nd_return hC rfl (by omega) (by omega) dX20_init_16 (R9)
theorem ni_kindX22 (hg : nd_OK g) (hd : 1 ≤ d) {x0 x1 x2 x3 x4 x5 : Value} (hb : h[b]? = some (.inr (nX22, [x0, x1, x2, x3, x4, x5]))) (hk : K (.inl none) ((h.set b (.inr (nX22, [x0, .ref 0, .ref h.length, .ref 0, x4, x5]))) ++ [.inl (0, 5, .inl (fun _ => 0))])) : nd_M g mX21_init d 1 5 [.ref b, .ref 0] h K := by
  have hlt := nd_get_lt hb
  refine nd_enter hg (by decide) rfl (Nat.le_of_ble_eq_true rfl) (fun X hC => ?_)
  refine nd_aload_n hC dX21_init_0 rfl rfl ?_
  refine nd_aload_n hC dX21_init_1 rfl rfl ?_
  refine nd_putF (ci := nX22) hC in_X22 rfl hb 1 (by decide) tyX22 tyX22_ok (by decide +kernel) q2144 (fun _ z => z) rfl rfl rfl rfl rfl (by show 1 < 6; decide) dX21_init_2 ?_
  refine nd_aload_n hC dX21_init_5 rfl rfl ?_
  refine nd_aload_n hC dX21_init_6 rfl rfl ?_
  refine nd_callIN (mm2 := mX20_init) (As := [_]) (mc2 := 1) (ms2 := 5) (d2 := d - 1) hC rfl rfl q772 q190 q2139 q771 rfl lmX20_init (Nat.le_of_ble_eq_true rfl) (by omega) rfl (by exact Nat.le_of_ble_eq_true rfl) (by omega) (by omega) dX21_init_7 rfl ((ni_rowsX22 hg (List.getElem?_set_self hlt) ?_))
  rw [List.length_set, List.set_set]
  refine nd_return hC rfl (by omega) (by omega) dX21_init_10 (hk)
theorem ni_X22 (hg : nd_OK g) (hd : 2 ≤ d) {x : Int32} {x0 x1 x2 x3 x4 x5 : Value} (hb : h[b]? = some (.inr (nX22, [x0, x1, x2, x3, x4, x5]))) (hk : K (.inl none) ((h.set b (.inr (nX22, [x0, .ref 0, .ref h.length, .ref 0, .int x, .ref 0]))) ++ [.inl (0, 5, .inl (fun _ => 0))])) : nd_M g mX22_init d 1 5 [.ref b, .ref 0, .int x] h K := by
  have hlt := nd_get_lt hb
  refine nd_enter hg (by decide) rfl (Nat.le_of_ble_eq_true rfl) (fun X hC => ?_)
  refine nd_aload_n hC dX22_init_0 rfl rfl ?_
  refine nd_aload_n hC dX22_init_1 rfl rfl ?_
  refine nd_putF (ci := nX22) hC in_X22 rfl hb 5 (by decide) tyX22 tyX22_ok (by decide +kernel) q2141 (fun _ z => z) rfl rfl rfl rfl rfl (by show 5 < 6; decide) dX22_init_2 ?_
  refine nd_aload_n hC dX22_init_5 rfl rfl ?_
  refine nd_iload_n hC dX22_init_6 rfl ?_
  refine nd_putF (ci := nX22) hC in_X22 rfl (List.getElem?_set_self hlt) 4 (by decide) tyX22 tyX22_ok (by decide +kernel) q2140 (fun _ z => z) rfl rfl rfl rfl rfl (by show 4 < 6; decide) dX22_init_7 ?_
  rw [List.set_set]
  refine nd_aload_n hC dX22_init_10 rfl rfl ?_
  refine nd_aload_n hC dX22_init_11 rfl rfl ?_
  refine nd_callIN (mm2 := mX21_init) (As := [_]) (mc2 := 1) (ms2 := 5) (d2 := d - 1) hC rfl rfl q2138 q191 q2136 q2137 rfl lmX21_init (Nat.le_of_ble_eq_true rfl) (by omega) rfl (by exact Nat.le_of_ble_eq_true rfl) (by omega) (by omega) dX22_init_12 rfl ((ni_kindX22 hg (by omega) (List.getElem?_set_self hlt) ?_))
  rw [List.length_set, List.set_set]
  refine nd_return hC rfl (by omega) (by omega) dX22_init_15 (hk)
theorem ni_rowsX33 (hg : nd_OK g) {x0 x1 x2 x3 x4 x5 : Value} (hb : h[b]? = some (.inr (nX33, [x0, x1, x2, x3, x4, x5]))) (hk : K (.inl none) ((h.set b (.inr (nX33, [x0, x1, .ref h.length, .ref 0, x4, x5]))) ++ [.inl (0, 5, .inl (fun _ => 0))])) : nd_M g mX20_init d 1 5 [.ref b, .ref 0] h K := by
  have hlt := nd_get_lt hb
  refine nd_enter hg (by decide) rfl (Nat.le_of_ble_eq_true rfl) (fun X hC => ?_)
  refine nd_aload_n hC dX20_init_0 rfl rfl ?_
  refine nd_aload_n hC dX20_init_1 rfl rfl ?_
  refine nd_putF (ci := nX33) hC in_X33 rfl hb 3 (by decide) tyX33 tyX33_ok (by decide +kernel) q786 (fun _ z => z) rfl rfl rfl rfl rfl (by show 3 < 6; decide) dX20_init_2 ?_
  refine nd_aload_n hC dX20_init_5 rfl rfl ?_
  refine nd_objInit hC q773 q225 q226 (by exact Nat.le_of_ble_eq_true rfl) dX20_init_6 ?_
  refine nd_aload_n hC dX20_init_9 rfl rfl ?_
  refine nd_iconst hC (v := nI 5) (by rfl) dX20_init_10 ?_
  refine nd_newarray hC (atype := .int) (ty := 0) .int (.inl (fun _ => 0)) q322 rfl rfl (fun _ _ => rfl) (N := 5) rfl (by decide) (by decide) (by omega) (by omega) dX20_init_11 ?_
  have hb2 := l_get_app (h := h) (b := b) (A := .inr (nX33, [x0, x1, x2, .ref 0, x4, x5])) (c := .inl (0, 5, .inl (fun _ => 0))) hlt
  refine nd_putF (ci := nX33) hC in_X33 rfl hb2 2 (by decide) tyX33 tyX33_ok (by decide +kernel) q783 (fun _ z => z) rfl rfl rfl rfl rfl (by show 2 < 6; decide) dX20_init_13 ?_
  rw [List.length_set]
  have R9 := hk
  rw [← l_set_app (A := .inr (nX33, [x0, x1, x2, .ref 0, x4, x5])) hlt] at R9
  refine nd_return hC rfl (by omega) (by omega) dX20_init_16 (R9)
theorem ni_kindX33 (hg : nd_OK g) (hd : 1 ≤ d) {x0 x1 x2 x3 x4 x5 : Value} (hb : h[b]? = some (.inr (nX33, [x0, x1, x2, x3, x4, x5]))) (hk : K (.inl none) ((h.set b (.inr (nX33, [x0, .ref 0, .ref h.length, .ref 0, x4, x5]))) ++ [.inl (0, 5, .inl (fun _ => 0))])) : nd_M g mX21_init d 1 5 [.ref b, .ref 0] h K := by
  have hlt := nd_get_lt hb
  refine nd_enter hg (by decide) rfl (Nat.le_of_ble_eq_true rfl) (fun X hC => ?_)
  refine nd_aload_n hC dX21_init_0 rfl rfl ?_
  refine nd_aload_n hC dX21_init_1 rfl rfl ?_
  refine nd_putF (ci := nX33) hC in_X33 rfl hb 1 (by decide) tyX33 tyX33_ok (by decide +kernel) q2144 (fun _ z => z) rfl rfl rfl rfl rfl (by show 1 < 6; decide) dX21_init_2 ?_
  refine nd_aload_n hC dX21_init_5 rfl rfl ?_
  refine nd_aload_n hC dX21_init_6 rfl rfl ?_
  refine nd_callIN (mm2 := mX20_init) (As := [_]) (mc2 := 1) (ms2 := 5) (d2 := d - 1) hC rfl rfl q772 q190 q2139 q771 rfl lmX20_init (Nat.le_of_ble_eq_true rfl) (by omega) rfl (by exact Nat.le_of_ble_eq_true rfl) (by omega) (by omega) dX21_init_7 rfl ((ni_rowsX33 hg (List.getElem?_set_self hlt) ?_))
  rw [List.length_set, List.set_set]
  refine nd_return hC rfl (by omega) (by omega) dX21_init_10 (hk)
theorem ni_X33 (hg : nd_OK g) (hd : 2 ≤ d) {x : Int32} {x0 x1 x2 x3 x4 x5 : Value} (hb : h[b]? = some (.inr (nX33, [x0, x1, x2, x3, x4, x5]))) (hk : K (.inl none) ((h.set b (.inr (nX33, [x0, .ref 0, .ref h.length, .ref 0, .int x, .ref 0]))) ++ [.inl (0, 5, .inl (fun _ => 0))])) : nd_M g mX33_init d 1 5 [.ref b, .ref 0, .int x] h K := by
  have hlt := nd_get_lt hb
  refine nd_enter hg (by decide) rfl (Nat.le_of_ble_eq_true rfl) (fun X hC => ?_)
  refine nd_aload_n hC dX33_init_0 rfl rfl ?_
  refine nd_aload_n hC dX33_init_1 rfl rfl ?_
  refine nd_putF (ci := nX33) hC in_X33 rfl hb 5 (by decide) tyX33 tyX33_ok (by decide +kernel) q2367 (fun _ z => z) rfl rfl rfl rfl rfl (by show 5 < 6; decide) dX33_init_2 ?_
  refine nd_aload_n hC dX33_init_5 rfl rfl ?_
  refine nd_iload_n hC dX33_init_6 rfl ?_
  refine nd_putF (ci := nX33) hC in_X33 rfl (List.getElem?_set_self hlt) 4 (by decide) tyX33 tyX33_ok (by decide +kernel) q2366 (fun _ z => z) rfl rfl rfl rfl rfl (by show 4 < 6; decide) dX33_init_7 ?_
  rw [List.set_set]
  refine nd_aload_n hC dX33_init_10 rfl rfl ?_
  refine nd_aload_n hC dX33_init_11 rfl rfl ?_
  refine nd_callIN (mm2 := mX21_init) (As := [_]) (mc2 := 1) (ms2 := 5) (d2 := d - 1) hC rfl rfl q2138 q191 q2365 q2137 rfl lmX21_init (Nat.le_of_ble_eq_true rfl) (by omega) rfl (by exact Nat.le_of_ble_eq_true rfl) (by omega) (by omega) dX33_init_12 rfl ((ni_kindX33 hg (by omega) (List.getElem?_set_self hlt) ?_))
  rw [List.length_set, List.set_set]
  refine nd_return hC rfl (by omega) (by omega) dX33_init_15 (hk)
theorem ni_rowsX24 (hg : nd_OK g) {x0 x1 x2 x3 x4 : Value} (hb : h[b]? = some (.inr (nX24, [x0, x1, x2, x3, x4]))) (hk : K (.inl none) ((h.set b (.inr (nX24, [x0, x1, .ref h.length, .ref 0, x4]))) ++ [.inl (0, 5, .inl (fun _ => 0))])) : nd_M g mX20_init d 1 5 [.ref b, .ref 0] h K := by
  have hlt := nd_get_lt hb
  refine nd_enter hg (by decide) rfl (Nat.le_of_ble_eq_true rfl) (fun X hC => ?_)
  refine nd_aload_n hC dX20_init_0 rfl rfl ?_
  refine nd_aload_n hC dX20_init_1 rfl rfl ?_
  refine nd_putF (ci := nX24) hC in_X24 rfl hb 3 (by decide) tyX24 tyX24_ok (by decide +kernel) q786 (fun _ z => z) rfl rfl rfl rfl rfl (by show 3 < 5; decide) dX20_init_2 ?_
  refine nd_aload_n hC dX20_init_5 rfl rfl ?_
  refine nd_objInit hC q773 q225 q226 (by exact Nat.le_of_ble_eq_true rfl) dX20_init_6 ?_
  refine nd_aload_n hC dX20_init_9 rfl rfl ?_
  refine nd_iconst hC (v := nI 5) (by rfl) dX20_init_10 ?_
  refine nd_newarray hC (atype := .int) (ty := 0) .int (.inl (fun _ => 0)) q322 rfl rfl (fun _ _ => rfl) (N := 5) rfl (by decide) (by decide) (by omega) (by omega) dX20_init_11 ?_
  have hb2 := l_get_app (h := h) (b := b) (A := .inr (nX24, [x0, x1, x2, .ref 0, x4])) (c := .inl (0, 5, .inl (fun _ => 0))) hlt
  refine nd_putF (ci := nX24) hC in_X24 rfl hb2 2 (by decide) tyX24 tyX24_ok (by decide +kernel) q783 (fun _ z => z) rfl rfl rfl rfl rfl (by show 2 < 5; decide) dX20_init_13 ?_
  rw [List.length_set]
  have R9 := hk
  rw [← l_set_app (A := .inr (nX24, [x0, x1, x2, .ref 0, x4])) hlt] at R9
  refine nd_return hC rfl (by omega) (by omega) dX20_init_16 (R9)
theorem ni_kindX24 (hg : nd_OK g) (hd : 1 ≤ d) {x0 x1 x2 x3 x4 : Value} (hb : h[b]? = some (.inr (nX24, [x0, x1, x2, x3, x4]))) (hk : K (.inl none) ((h.set b (.inr (nX24, [x0, .ref 0, .ref h.length, .ref 0, x4]))) ++ [.inl (0, 5, .inl (fun _ => 0))])) : nd_M g mX23_init d 1 5 [.ref b, .ref 0] h K := by
  have hlt := nd_get_lt hb
  refine nd_enter hg (by decide) rfl (Nat.le_of_ble_eq_true rfl) (fun X hC => ?_)
  refine nd_aload_n hC dX23_init_0 rfl rfl ?_
  refine nd_aload_n hC dX23_init_1 rfl rfl ?_
  refine nd_putF (ci := nX24) hC in_X24 rfl hb 1 (by decide) tyX24 tyX24_ok (by decide +kernel) q1075 (fun _ z => z) rfl rfl rfl rfl rfl (by show 1 < 5; decide) dX23_init_2 ?_
  refine nd_aload_n hC dX23_init_5 rfl rfl ?_
  refine nd_aload_n hC dX23_init_6 rfl rfl ?_
  refine nd_callIN (mm2 := mX20_init) (As := [_]) (mc2 := 1) (ms2 := 5) (d2 := d - 1) hC rfl rfl q772 q190 q1072 q771 rfl lmX20_init (Nat.le_of_ble_eq_true rfl) (by omega) rfl (by exact Nat.le_of_ble_eq_true rfl) (by omega) (by omega) dX23_init_7 rfl ((ni_rowsX24 hg (List.getElem?_set_self hlt) ?_))
  rw [List.length_set, List.set_set]
  refine nd_return hC rfl (by omega) (by omega) dX23_init_10 (hk)
theorem ni_X24 (hg : nd_OK g) (hd : 2 ≤ d) {x0 x1 x2 x3 x4 : Value} (hb : h[b]? = some (.inr (nX24, [x0, x1, x2, x3, x4]))) (hk : K (.inl none) ((h.set b (.inr (nX24, [x0, .ref 0, .ref h.length, .ref 0, .ref 0]))) ++ [.inl (0, 5, .inl (fun _ => 0))])) : nd_M g mX24_init d 1 5 [.ref b, .ref 0] h K := by
  have hlt := nd_get_lt hb
  refine nd_enter hg (by decide) rfl (Nat.le_of_ble_eq_true rfl) (fun X hC => ?_)
  refine nd_aload_n hC dX24_init_0 rfl rfl ?_
  refine nd_aload_n hC dX24_init_1 rfl rfl ?_
  refine nd_putF (ci := nX24) hC in_X24 rfl hb 4 (by decide) tyX24 tyX24_ok (by decide +kernel) q2173 (fun _ z => z) rfl rfl rfl rfl rfl (by show 4 < 5; decide) dX24_init_2 ?_
  refine nd_aload_n hC dX24_init_5 rfl rfl ?_
  refine nd_aload_n hC dX24_init_6 rfl rfl ?_
  refine nd_callIN (mm2 := mX23_init) (As := [_]) (mc2 := 1) (ms2 := 5) (d2 := d - 1) hC rfl rfl q1071 q193 q2172 q1070 rfl lmX23_init (Nat.le_of_ble_eq_true rfl) (by omega) rfl (by exact Nat.le_of_ble_eq_true rfl) (by omega) (by omega) dX24_init_7 rfl ((ni_kindX24 hg (by omega) (List.getElem?_set_self hlt) ?_))
  rw [List.length_set, List.set_set]
  refine nd_return hC rfl (by omega) (by omega) dX24_init_10 (hk)
theorem ni_rowsX28 (hg : nd_OK g) {x0 x1 x2 x3 x4 : Value} (hb : h[b]? = some (.inr (nX28, [x0, x1, x2, x3, x4]))) (hk : K (.inl none) ((h.set b (.inr (nX28, [x0, x1, .ref h.length, .ref 0, x4]))) ++ [.inl (0, 5, .inl (fun _ => 0))])) : nd_M g mX20_init d 1 5 [.ref b, .ref 0] h K := by
  have hlt := nd_get_lt hb
  refine nd_enter hg (by decide) rfl (Nat.le_of_ble_eq_true rfl) (fun X hC => ?_)
  refine nd_aload_n hC dX20_init_0 rfl rfl ?_
  refine nd_aload_n hC dX20_init_1 rfl rfl ?_
  refine nd_putF (ci := nX28) hC in_X28 rfl hb 3 (by decide) tyX28 tyX28_ok (by decide +kernel) q786 (fun _ z => z) rfl rfl rfl rfl rfl (by show 3 < 5; decide) dX20_init_2 ?_
  refine nd_aload_n hC dX20_init_5 rfl rfl ?_
  refine nd_objInit hC q773 q225 q226 (by exact Nat.le_of_ble_eq_true rfl) dX20_init_6 ?_
  refine nd_aload_n hC dX20_init_9 rfl rfl ?_
  refine nd_iconst hC (v := nI 5) (by rfl) dX20_init_10 ?_
  refine nd_newarray hC (atype := .int) (ty := 0) .int (.inl (fun _ => 0)) q322 rfl rfl (fun _ _ => rfl) (N := 5) rfl (by decide) (by decide) (by omega) (by omega) dX20_init_11 ?_
  have hb2 := l_get_app (h := h) (b := b) (A := .inr (nX28, [x0, x1, x2, .ref 0, x4])) (c := .inl (0, 5, .inl (fun _ => 0))) hlt
  refine nd_putF (ci := nX28) hC in_X28 rfl hb2 2 (by decide) tyX28 tyX28_ok (by decide +kernel) q783 (fun _ z => z) rfl rfl rfl rfl rfl (by show 2 < 5; decide) dX20_init_13 ?_
  rw [List.length_set]
  have R9 := hk
  rw [← l_set_app (A := .inr (nX28, [x0, x1, x2, .ref 0, x4])) hlt] at R9
  refine nd_return hC rfl (by omega) (by omega) dX20_init_16 (R9)
theorem ni_kindX28 (hg : nd_OK g) (hd : 1 ≤ d) {x0 x1 x2 x3 x4 : Value} (hb : h[b]? = some (.inr (nX28, [x0, x1, x2, x3, x4]))) (hk : K (.inl none) ((h.set b (.inr (nX28, [x0, .ref 0, .ref h.length, .ref 0, x4]))) ++ [.inl (0, 5, .inl (fun _ => 0))])) : nd_M g mX23_init d 1 5 [.ref b, .ref 0] h K := by
  have hlt := nd_get_lt hb
  refine nd_enter hg (by decide) rfl (Nat.le_of_ble_eq_true rfl) (fun X hC => ?_)
  refine nd_aload_n hC dX23_init_0 rfl rfl ?_
  refine nd_aload_n hC dX23_init_1 rfl rfl ?_
  refine nd_putF (ci := nX28) hC in_X28 rfl hb 1 (by decide) tyX28 tyX28_ok (by decide +kernel) q1075 (fun _ z => z) rfl rfl rfl rfl rfl (by show 1 < 5; decide) dX23_init_2 ?_
  refine nd_aload_n hC dX23_init_5 rfl rfl ?_
  refine nd_aload_n hC dX23_init_6 rfl rfl ?_
  refine nd_callIN (mm2 := mX20_init) (As := [_]) (mc2 := 1) (ms2 := 5) (d2 := d - 1) hC rfl rfl q772 q190 q1072 q771 rfl lmX20_init (Nat.le_of_ble_eq_true rfl) (by omega) rfl (by exact Nat.le_of_ble_eq_true rfl) (by omega) (by omega) dX23_init_7 rfl ((ni_rowsX28 hg (List.getElem?_set_self hlt) ?_))
  rw [List.length_set, List.set_set]
  refine nd_return hC rfl (by omega) (by omega) dX23_init_10 (hk)
theorem ni_X28 (hg : nd_OK g) (hd : 2 ≤ d) {x0 x1 x2 x3 x4 : Value} (hb : h[b]? = some (.inr (nX28, [x0, x1, x2, x3, x4]))) (hk : K (.inl none) ((h.set b (.inr (nX28, [x0, .ref 0, .ref h.length, .ref 0, .ref 0]))) ++ [.inl (0, 5, .inl (fun _ => 0))])) : nd_M g mX28_init d 1 5 [.ref b, .ref 0] h K := by
  have hlt := nd_get_lt hb
  refine nd_enter hg (by decide) rfl (Nat.le_of_ble_eq_true rfl) (fun X hC => ?_)
  refine nd_aload_n hC dX28_init_0 rfl rfl ?_
  refine nd_aload_n hC dX28_init_1 rfl rfl ?_
  refine nd_putF (ci := nX28) hC in_X28 rfl hb 4 (by decide) tyX28 tyX28_ok (by decide +kernel) q2263 (fun _ z => z) rfl rfl rfl rfl rfl (by show 4 < 5; decide) dX28_init_2 ?_
  refine nd_aload_n hC dX28_init_5 rfl rfl ?_
  refine nd_aload_n hC dX28_init_6 rfl rfl ?_
  refine nd_callIN (mm2 := mX23_init) (As := [_]) (mc2 := 1) (ms2 := 5) (d2 := d - 1) hC rfl rfl q1071 q193 q2262 q1070 rfl lmX23_init (Nat.le_of_ble_eq_true rfl) (by omega) rfl (by exact Nat.le_of_ble_eq_true rfl) (by omega) (by omega) dX28_init_7 rfl ((ni_kindX28 hg (by omega) (List.getElem?_set_self hlt) ?_))
  rw [List.length_set, List.set_set]
  refine nd_return hC rfl (by omega) (by omega) dX28_init_10 (hk)
theorem ni_rowsX32 (hg : nd_OK g) {x0 x1 x2 x3 x4 : Value} (hb : h[b]? = some (.inr (nX32, [x0, x1, x2, x3, x4]))) (hk : K (.inl none) ((h.set b (.inr (nX32, [x0, x1, .ref h.length, .ref 0, x4]))) ++ [.inl (0, 5, .inl (fun _ => 0))])) : nd_M g mX20_init d 1 5 [.ref b, .ref 0] h K := by
  have hlt := nd_get_lt hb
  refine nd_enter hg (by decide) rfl (Nat.le_of_ble_eq_true rfl) (fun X hC => ?_)
  refine nd_aload_n hC dX20_init_0 rfl rfl ?_
  refine nd_aload_n hC dX20_init_1 rfl rfl ?_
  refine nd_putF (ci := nX32) hC in_X32 rfl hb 3 (by decide) tyX32 tyX32_ok (by decide +kernel) q786 (fun _ z => z) rfl rfl rfl rfl rfl (by show 3 < 5; decide) dX20_init_2 ?_
  refine nd_aload_n hC dX20_init_5 rfl rfl ?_
  refine nd_objInit hC q773 q225 q226 (by exact Nat.le_of_ble_eq_true rfl) dX20_init_6 ?_
  refine nd_aload_n hC dX20_init_9 rfl rfl ?_
  refine nd_iconst hC (v := nI 5) (by rfl) dX20_init_10 ?_
  refine nd_newarray hC (atype := .int) (ty := 0) .int (.inl (fun _ => 0)) q322 rfl rfl (fun _ _ => rfl) (N := 5) rfl (by decide) (by decide) (by omega) (by omega) dX20_init_11 ?_
  have hb2 := l_get_app (h := h) (b := b) (A := .inr (nX32, [x0, x1, x2, .ref 0, x4])) (c := .inl (0, 5, .inl (fun _ => 0))) hlt
  refine nd_putF (ci := nX32) hC in_X32 rfl hb2 2 (by decide) tyX32 tyX32_ok (by decide +kernel) q783 (fun _ z => z) rfl rfl rfl rfl rfl (by show 2 < 5; decide) dX20_init_13 ?_
  rw [List.length_set]
  have R9 := hk
  rw [← l_set_app (A := .inr (nX32, [x0, x1, x2, .ref 0, x4])) hlt] at R9
  refine nd_return hC rfl (by omega) (by omega) dX20_init_16 (R9)
theorem ni_kindX32 (hg : nd_OK g) (hd : 1 ≤ d) {x0 x1 x2 x3 x4 : Value} (hb : h[b]? = some (.inr (nX32, [x0, x1, x2, x3, x4]))) (hk : K (.inl none) ((h.set b (.inr (nX32, [x0, .ref 0, .ref h.length, .ref 0, x4]))) ++ [.inl (0, 5, .inl (fun _ => 0))])) : nd_M g mX23_init d 1 5 [.ref b, .ref 0] h K := by
  have hlt := nd_get_lt hb
  refine nd_enter hg (by decide) rfl (Nat.le_of_ble_eq_true rfl) (fun X hC => ?_)
  refine nd_aload_n hC dX23_init_0 rfl rfl ?_
  refine nd_aload_n hC dX23_init_1 rfl rfl ?_
  refine nd_putF (ci := nX32) hC in_X32 rfl hb 1 (by decide) tyX32 tyX32_ok (by decide +kernel) q1075 (fun _ z => z) rfl rfl rfl rfl rfl (by show 1 < 5; decide) dX23_init_2 ?_
  refine nd_aload_n hC dX23_init_5 rfl rfl ?_
  refine nd_aload_n hC dX23_init_6 rfl rfl ?_
  refine nd_callIN (mm2 := mX20_init) (As := [_]) (mc2 := 1) (ms2 := 5) (d2 := d - 1) hC rfl rfl q772 q190 q1072 q771 rfl lmX20_init (Nat.le_of_ble_eq_true rfl) (by omega) rfl (by exact Nat.le_of_ble_eq_true rfl) (by omega) (by omega) dX23_init_7 rfl ((ni_rowsX32 hg (List.getElem?_set_self hlt) ?_))
  rw [List.length_set, List.set_set]
  refine nd_return hC rfl (by omega) (by omega) dX23_init_10 (hk)
theorem ni_X32 (hg : nd_OK g) (hd : 2 ≤ d) {x0 x1 x2 x3 x4 : Value} (hb : h[b]? = some (.inr (nX32, [x0, x1, x2, x3, x4]))) (hk : K (.inl none) ((h.set b (.inr (nX32, [x0, .ref 0, .ref h.length, .ref 0, .ref 0]))) ++ [.inl (0, 5, .inl (fun _ => 0))])) : nd_M g mX32_init d 1 5 [.ref b, .ref 0] h K := by
  have hlt := nd_get_lt hb
  refine nd_enter hg (by decide) rfl (Nat.le_of_ble_eq_true rfl) (fun X hC => ?_)
  refine nd_aload_n hC dX32_init_0 rfl rfl ?_
  refine nd_aload_n hC dX32_init_1 rfl rfl ?_
  refine nd_putF (ci := nX32) hC in_X32 rfl hb 4 (by decide) tyX32 tyX32_ok (by decide +kernel) q1073 (fun _ z => z) rfl rfl rfl rfl rfl (by show 4 < 5; decide) dX32_init_2 ?_
  refine nd_aload_n hC dX32_init_5 rfl rfl ?_
  refine nd_aload_n hC dX32_init_6 rfl rfl ?_
  refine nd_callIN (mm2 := mX23_init) (As := [_]) (mc2 := 1) (ms2 := 5) (d2 := d - 1) hC rfl rfl q1071 q193 q1069 q1070 rfl lmX23_init (Nat.le_of_ble_eq_true rfl) (by omega) rfl (by exact Nat.le_of_ble_eq_true rfl) (by omega) (by omega) dX32_init_7 rfl ((ni_kindX32 hg (by omega) (List.getElem?_set_self hlt) ?_))
  rw [List.length_set, List.set_set]
  refine nd_return hC rfl (by omega) (by omega) dX32_init_10 (hk)
theorem ni_rowsX35 (hg : nd_OK g) {x0 x1 x2 x3 x4 : Value} (hb : h[b]? = some (.inr (nX35, [x0, x1, x2, x3, x4]))) (hk : K (.inl none) ((h.set b (.inr (nX35, [x0, x1, .ref h.length, .ref 0, x4]))) ++ [.inl (0, 5, .inl (fun _ => 0))])) : nd_M g mX20_init d 1 5 [.ref b, .ref 0] h K := by
  have hlt := nd_get_lt hb
  refine nd_enter hg (by decide) rfl (Nat.le_of_ble_eq_true rfl) (fun X hC => ?_)
  refine nd_aload_n hC dX20_init_0 rfl rfl ?_
  refine nd_aload_n hC dX20_init_1 rfl rfl ?_
  refine nd_putF (ci := nX35) hC in_X35 rfl hb 3 (by decide) tyX35 tyX35_ok (by decide +kernel) q786 (fun _ z => z) rfl rfl rfl rfl rfl (by show 3 < 5; decide) dX20_init_2 ?_
  refine nd_aload_n hC dX20_init_5 rfl rfl ?_
  refine nd_objInit hC q773 q225 q226 (by exact Nat.le_of_ble_eq_true rfl) dX20_init_6 ?_
  refine nd_aload_n hC dX20_init_9 rfl rfl ?_
  refine nd_iconst hC (v := nI 5) (by rfl) dX20_init_10 ?_
  refine nd_newarray hC (atype := .int) (ty := 0) .int (.inl (fun _ => 0)) q322 rfl rfl (fun _ _ => rfl) (N := 5) rfl (by decide) (by decide) (by omega) (by omega) dX20_init_11 ?_
  have hb2 := l_get_app (h := h) (b := b) (A := .inr (nX35, [x0, x1, x2, .ref 0, x4])) (c := .inl (0, 5, .inl (fun _ => 0))) hlt
  refine nd_putF (ci := nX35) hC in_X35 rfl hb2 2 (by decide) tyX35 tyX35_ok (by decide +kernel) q783 (fun _ z => z) rfl rfl rfl rfl rfl (by show 2 < 5; decide) dX20_init_13 ?_
  rw [List.length_set]
  have R9 := hk
  rw [← l_set_app (A := .inr (nX35, [x0, x1, x2, .ref 0, x4])) hlt] at R9
  refine nd_return hC rfl (by omega) (by omega) dX20_init_16 (R9)
theorem ni_kindX35 (hg : nd_OK g) (hd : 1 ≤ d) {x0 x1 x2 x3 x4 : Value} (hb : h[b]? = some (.inr (nX35, [x0, x1, x2, x3, x4]))) (hk : K (.inl none) ((h.set b (.inr (nX35, [x0, .ref 0, .ref h.length, .ref 0, x4]))) ++ [.inl (0, 5, .inl (fun _ => 0))])) : nd_M g mX23_init d 1 5 [.ref b, .ref 0] h K := by
  have hlt := nd_get_lt hb
  refine nd_enter hg (by decide) rfl (Nat.le_of_ble_eq_true rfl) (fun X hC => ?_)
  refine nd_aload_n hC dX23_init_0 rfl rfl ?_
  refine nd_aload_n hC dX23_init_1 rfl rfl ?_
  refine nd_putF (ci := nX35) hC in_X35 rfl hb 1 (by decide) tyX35 tyX35_ok (by decide +kernel) q1075 (fun _ z => z) rfl rfl rfl rfl rfl (by show 1 < 5; decide) dX23_init_2 ?_
  refine nd_aload_n hC dX23_init_5 rfl rfl ?_
  refine nd_aload_n hC dX23_init_6 rfl rfl ?_
  refine nd_callIN (mm2 := mX20_init) (As := [_]) (mc2 := 1) (ms2 := 5) (d2 := d - 1) hC rfl rfl q772 q190 q1072 q771 rfl lmX20_init (Nat.le_of_ble_eq_true rfl) (by omega) rfl (by exact Nat.le_of_ble_eq_true rfl) (by omega) (by omega) dX23_init_7 rfl ((ni_rowsX35 hg (List.getElem?_set_self hlt) ?_))
  rw [List.length_set, List.set_set]
  refine nd_return hC rfl (by omega) (by omega) dX23_init_10 (hk)
theorem ni_X35 (hg : nd_OK g) (hd : 2 ≤ d) {x0 x1 x2 x3 x4 : Value} (hb : h[b]? = some (.inr (nX35, [x0, x1, x2, x3, x4]))) (hk : K (.inl none) ((h.set b (.inr (nX35, [x0, .ref 0, .ref h.length, .ref 0, .ref 0]))) ++ [.inl (0, 5, .inl (fun _ => 0))])) : nd_M g mX35_init d 1 5 [.ref b, .ref 0] h K := by
  have hlt := nd_get_lt hb
  refine nd_enter hg (by decide) rfl (Nat.le_of_ble_eq_true rfl) (fun X hC => ?_)
  refine nd_aload_n hC dX35_init_0 rfl rfl ?_
  refine nd_aload_n hC dX35_init_1 rfl rfl ?_
  refine nd_putF (ci := nX35) hC in_X35 rfl hb 4 (by decide) tyX35 tyX35_ok (by decide +kernel) q1509 (fun _ z => z) rfl rfl rfl rfl rfl (by show 4 < 5; decide) dX35_init_2 ?_
  refine nd_aload_n hC dX35_init_5 rfl rfl ?_
  refine nd_aload_n hC dX35_init_6 rfl rfl ?_
  refine nd_callIN (mm2 := mX23_init) (As := [_]) (mc2 := 1) (ms2 := 5) (d2 := d - 1) hC rfl rfl q1071 q193 q1508 q1070 rfl lmX23_init (Nat.le_of_ble_eq_true rfl) (by omega) rfl (by exact Nat.le_of_ble_eq_true rfl) (by omega) (by omega) dX35_init_7 rfl ((ni_kindX35 hg (by omega) (List.getElem?_set_self hlt) ?_))
  rw [List.length_set, List.set_set]
  refine nd_return hC rfl (by omega) (by omega) dX35_init_10 (hk)
theorem ni_rowsX37 (hg : nd_OK g) {x0 x1 x2 x3 x4 x5 : Value} (hb : h[b]? = some (.inr (nX37, [x0, x1, x2, x3, x4, x5]))) (hk : K (.inl none) ((h.set b (.inr (nX37, [x0, x1, .ref h.length, .ref 0, x4, x5]))) ++ [.inl (0, 5, .inl (fun _ => 0))])) : nd_M g mX20_init d 1 5 [.ref b, .ref 0] h K := by
  have hlt := nd_get_lt hb
  refine nd_enter hg (by decide) rfl (Nat.le_of_ble_eq_true rfl) (fun X hC => ?_)
  refine nd_aload_n hC dX20_init_0 rfl rfl ?_
  refine nd_aload_n hC dX20_init_1 rfl rfl ?_
  refine nd_putF (ci := nX37) hC in_X37 rfl hb 3 (by decide) tyX37 tyX37_ok (by decide +kernel) q786 (fun _ z => z) rfl rfl rfl rfl rfl (by show 3 < 6; decide) dX20_init_2 ?_
  refine nd_aload_n hC dX20_init_5 rfl rfl ?_
  refine nd_objInit hC q773 q225 q226 (by exact Nat.le_of_ble_eq_true rfl) dX20_init_6 ?_
  refine nd_aload_n hC dX20_init_9 rfl rfl ?_
  refine nd_iconst hC (v := nI 5) (by rfl) dX20_init_10 ?_
  refine nd_newarray hC (atype := .int) (ty := 0) .int (.inl (fun _ => 0)) q322 rfl rfl (fun _ _ => rfl) (N := 5) rfl (by decide) (by decide) (by omega) (by omega) dX20_init_11 ?_
  have hb2 := l_get_app (h := h) (b := b) (A := .inr (nX37, [x0, x1, x2, .ref 0, x4, x5])) (c := .inl (0, 5, .inl (fun _ => 0))) hlt
  refine nd_putF (ci := nX37) hC in_X37 rfl hb2 2 (by decide) tyX37 tyX37_ok (by decide +kernel) q783 (fun _ z => z) rfl rfl rfl rfl rfl (by show 2 < 6; decide) dX20_init_13 ?_
  rw [List.length_set]
  have R9 := hk
  rw [← l_set_app (A := .inr (nX37, [x0, x1, x2, .ref 0, x4, x5])) hlt] at R9
  refine nd_return hC rfl (by omega) (by omega) dX20_init_16 (R9)
theorem ni_kindX37 (hg : nd_OK g) (hd : 1 ≤ d) {x0 x1 x2 x3 x4 x5 : Value} (hb : h[b]? = some (.inr (nX37, [x0, x1, x2, x3, x4, x5]))) (hk : K (.inl none) ((h.set b (.inr (nX37, [x0, .ref 0, .ref h.length, .ref 0, x4, x5]))) ++ [.inl (0, 5, .inl (fun _ => 0))])) : nd_M g mX23_init d 1 5 [.ref b, .ref 0] h K := by
  have hlt := nd_get_lt hb
  refine nd_enter hg (by decide) rfl (Nat.le_of_ble_eq_true rfl) (fun X hC => ?_)
  refine nd_aload_n hC dX23_init_0 rfl rfl ?_
  refine nd_aload_n hC dX23_init_1 rfl rfl ?_
  refine nd_putF (ci := nX37) hC in_X37 rfl hb 1 (by decide) tyX37 tyX37_ok (by decide +kernel) q1075 (fun _ z => z) rfl rfl rfl rfl rfl (by show 1 < 6; decide) dX23_init_2 ?_
  refine nd_aload_n hC dX23_init_5 rfl rfl ?_
  refine nd_aload_n hC dX23_init_6 rfl rfl ?_
  refine nd_callIN (mm2 := mX20_init) (As := [_]) (mc2 := 1) (ms2 := 5) (d2 := d - 1) hC rfl rfl q772 q190 q1072 q771 rfl lmX20_init (Nat.le_of_ble_eq_true rfl) (by omega) rfl (by exact Nat.le_of_ble_eq_true rfl) (by omega) (by omega) dX23_init_7 rfl ((ni_rowsX37 hg (List.getElem?_set_self hlt) ?_))
  rw [List.length_set, List.set_set]
  refine nd_return hC rfl (by omega) (by omega) dX23_init_10 (hk)
theorem ni_X37 (hg : nd_OK g) (hd : 2 ≤ d) {va : Nat} {x0 x1 x2 x3 x4 x5 : Value} (hb : h[b]? = some (.inr (nX37, [x0, x1, x2, x3, x4, x5]))) (hk : K (.inl none) ((h.set b (.inr (nX37, [x0, .ref 0, .ref h.length, .ref 0, .ref va, .ref 0]))) ++ [.inl (0, 5, .inl (fun _ => 0))])) : nd_M g mX37_init d 1 5 [.ref b, .ref 0, .ref va] h K := by
  have hlt := nd_get_lt hb
  refine nd_enter hg (by decide) rfl (Nat.le_of_ble_eq_true rfl) (fun X hC => ?_)
  refine nd_aload_n hC dX37_init_0 rfl rfl ?_
  refine nd_aload_n hC dX37_init_1 rfl rfl ?_
  refine nd_putF (ci := nX37) hC in_X37 rfl hb 5 (by decide) tyX37 tyX37_ok (by decide +kernel) q2446 (fun _ z => z) rfl rfl rfl rfl rfl (by show 5 < 6; decide) dX37_init_2 ?_
  refine nd_aload_n hC dX37_init_5 rfl rfl ?_
  refine nd_aload_n hC dX37_init_6 rfl rfl ?_
  refine nd_putF (ci := nX37) hC in_X37 rfl (List.getElem?_set_self hlt) 4 (by decide) tyX37 tyX37_ok (by decide +kernel) q2445 (fun _ z => z) rfl rfl rfl rfl rfl (by show 4 < 6; decide) dX37_init_7 ?_
  rw [List.set_set]
  refine nd_aload_n hC dX37_init_10 rfl rfl ?_
  refine nd_aload_n hC dX37_init_11 rfl rfl ?_
  refine nd_callIN (mm2 := mX23_init) (As := [_]) (mc2 := 1) (ms2 := 5) (d2 := d - 1) hC rfl rfl q1071 q193 q2444 q1070 rfl lmX23_init (Nat.le_of_ble_eq_true rfl) (by omega) rfl (by exact Nat.le_of_ble_eq_true rfl) (by omega) (by omega) dX37_init_12 rfl ((ni_kindX37 hg (by omega) (List.getElem?_set_self hlt) ?_))
  rw [List.length_set, List.set_set]
  refine nd_return hC rfl (by omega) (by omega) dX37_init_15 (hk)
end IN88

