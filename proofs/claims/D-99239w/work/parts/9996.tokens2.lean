set_option maxRecDepth 100000
/-! ===== Bad ===== -/
section BD96
variable {g : nd_G} {mm : nd_Mt} {d mc ms : Nat} {K : nd_K} {X : nd_X} {pc : Nat} {lv : List (Option Value)} {st : List Value} {h : nd_H} {cs ss b : Nat}
theorem nd_athrow (hC : nd_Cx g mm X) {k ci N : Nat} {fs : List Value} {C : String} {T : u_T} (hb : h[k]? = some (.inr (ci, fs))) (hc : nd_cl[ci]? = some (C, T, N)) (hd : decode mm.2.1 pc = .ok (.athrow, 1)) (kk : nd_T g mm d mc ms K X pc lv C k h cs ss) : nd_W g mm d mc ms K X pc lv (.ref k :: st) h cs ss := by
  intro H ls locs hl hR hS
  obtain ⟨cell, e1, e2, e3, -⟩ := (hR.2.2 k _ hb) _ hc
  obtain ⟨cell2, q1, q2, q3⟩ := nd_recv hC hR hb hc
  have e : cell2 = cell := Option.some.inj (q1.symm.trans e1)
  subst e
  exact vx_athrow hC.1 hC.2.1 hd (kk H ls locs (st.map (nd_v g)) _ hl hR hS e1 e3 q3)
theorem nd_fnar (hC : nd_Cx g mm X) (k : Nat) (t : FieldType) (ht : t.isReference = true) : narrow t (nd_v g (.float (UInt32.ofNat k))) = nd_v g (.float (UInt32.ofNat k)) ∧ fits t (nd_v g (.float (UInt32.ofNat k))) = true := by
  have e : nd_v g (.float (UInt32.ofNat k)) = nd_fv g (UInt32.ofNat k).toNat := rfl
  rw [e]
  rcases hC.ok.2.1 (UInt32.ofNat k).toNat with z | ⟨a, -, z⟩
  · rw [z]
    cases t <;> first | exact ⟨rfl, rfl⟩ | exact absurd ht (by decide)
  · rw [z]
    cases t <;> first | exact ⟨rfl, rfl⟩ | exact absurd ht (by decide)
theorem ni_J3 (hg : nd_OK g) {x0 x1 x2 x3 x4 x5 x6 x7 : Value} (hb : h[b]? = some (.inr (nX9, [x0, x1, x2, x3, x4, x5, x6, x7]))) (hk : K (.inl none) (h.set b (.inr (nX9, [.null, .null, .null, .null, x4, x5, x6, x7])))) : nd_M g mJ3_init_3 d 0 0 [.ref b, .null, .null, .int (nI 0), .int (nI 0)] h K := by
  have hlt := nd_get_lt hb
  refine nd_enter hg (by decide) rfl (Nat.le_of_ble_eq_true rfl) (fun X hC => ?_)
  refine nd_aload_n hC dJ3_init_3_0 rfl rfl ?_
  refine nd_objInit hC q1132 q225 q226 (by exact Nat.le_of_ble_eq_true rfl) dJ3_init_3_1 ?_
  refine nd_aload_n hC dJ3_init_3_4 rfl rfl ?_
  refine nd_aload_n hC dJ3_init_3_5 rfl rfl ?_
  refine nd_put (ci := nX9) hC in_X9 rfl hb 0 (by decide) tyX9 tyX9_ok (by decide +kernel) q1204 (fun _ z => z) rfl rfl rfl (by show 0 < 8; decide) dJ3_init_3_6 ?_
  refine nd_aload_n hC dJ3_init_3_9 rfl rfl ?_
  refine nd_gets hC (r := ("java/lang/Throwable", "UNASSIGNED_STACK", "[Ljava/lang/StackTraceElement;", .float 202)) (List.mem_of_getElem? (i := 3) rfl) q1133 dJ3_init_3_10 ?_
  refine nd_put (ci := nX9) hC in_X9 rfl (List.getElem?_set_self hlt) 1 (by decide) tyX9 tyX9_ok (by decide +kernel) q1205 (fun _ z => z) rfl (nd_fnar hC 202 _ rfl).1 (nd_fnar hC 202 _ rfl).2 (by show 1 < 8; decide) dJ3_init_3_13 ?_
  rw [List.set_set]
  refine nd_aload_n hC dJ3_init_3_16 rfl rfl ?_
  refine nd_gets hC (r := ("java/lang/Throwable", "SUPPRESSED_SENTINEL", "Ljava/util/List;", .float 203)) (List.mem_of_getElem? (i := 4) rfl) q1135 dJ3_init_3_17 ?_
  refine nd_put (ci := nX9) hC in_X9 rfl (List.getElem?_set_self hlt) 2 (by decide) tyX9 tyX9_ok (by decide +kernel) q1206 (fun _ z => z) rfl (nd_fnar hC 203 _ rfl).1 (nd_fnar hC 203 _ rfl).2 (by show 2 < 8; decide) dJ3_init_3_20 ?_
  rw [List.set_set]
  refine nd_iload hC dJ3_init_3_23 rfl ?_
  refine nd_if_eqN hC (tgt := 36) (by omega) dJ3_init_3_25 (by decide) (fun _ => ?_) (fun hq => absurd rfl hq)
  refine nd_aload_n hC dJ3_init_3_36 rfl rfl ?_
  refine nd_null hC dJ3_init_3_37 ?_
  refine nd_put (ci := nX9) hC in_X9 rfl (List.getElem?_set_self hlt) 1 (by decide) tyX9 tyX9_ok (by decide +kernel) q1205 (fun _ z => z) rfl rfl rfl (by show 1 < 8; decide) dJ3_init_3_38 ?_
  rw [List.set_set]
  refine nd_aload_n hC dJ3_init_3_41 rfl rfl ?_
  refine nd_aload_n hC dJ3_init_3_42 rfl rfl ?_
  refine nd_put (ci := nX9) hC in_X9 rfl (List.getElem?_set_self hlt) 3 (by decide) tyX9 tyX9_ok (by decide +kernel) q1203 (fun _ z => z) rfl rfl rfl (by show 3 < 8; decide) dJ3_init_3_43 ?_
  rw [List.set_set]
  refine nd_aload_n hC dJ3_init_3_46 rfl rfl ?_
  refine nd_aload_n hC dJ3_init_3_47 rfl rfl ?_
  refine nd_put (ci := nX9) hC in_X9 rfl (List.getElem?_set_self hlt) 0 (by decide) tyX9 tyX9_ok (by decide +kernel) q1204 (fun _ z => z) rfl rfl rfl (by show 0 < 8; decide) dJ3_init_3_48 ?_
  rw [List.set_set]
  refine nd_iload_n hC dJ3_init_3_51 rfl ?_
  refine nd_if_neN hC (tgt := 60) (by omega) dJ3_init_3_52 (by decide) (fun hq => absurd rfl hq) (fun _ => ?_)
  refine nd_aload_n hC dJ3_init_3_55 rfl rfl ?_
  refine nd_null hC dJ3_init_3_56 ?_
  refine nd_put (ci := nX9) hC in_X9 rfl (List.getElem?_set_self hlt) 2 (by decide) tyX9 tyX9_ok (by decide +kernel) q1206 (fun _ z => z) rfl rfl rfl (by show 2 < 8; decide) dJ3_init_3_57 ?_
  rw [List.set_set]
  refine nd_return hC rfl (by omega) (by omega) dJ3_init_3_60 (hk)
theorem ni_J4 (hg : nd_OK g) (hd : 1 ≤ d) {x0 x1 x2 x3 x4 x5 x6 x7 : Value} (hb : h[b]? = some (.inr (nX9, [x0, x1, x2, x3, x4, x5, x6, x7]))) (hk : K (.inl none) (h.set b (.inr (nX9, [.null, .null, .null, .null, x4, x5, x6, x7])))) : nd_M g mJ4_init_3 d 0 0 [.ref b, .null, .null, .int (nI 0), .int (nI 0)] h K := by
  refine nd_enter hg (by decide) rfl (Nat.le_of_ble_eq_true rfl) (fun X hC => ?_)
  refine nd_aload_n hC dJ4_init_3_0 rfl rfl ?_
  refine nd_aload_n hC dJ4_init_3_1 rfl rfl ?_
  refine nd_aload_n hC dJ4_init_3_2 rfl rfl ?_
  refine nd_iload_n hC dJ4_init_3_3 rfl ?_
  refine nd_iload hC dJ4_init_3_4 rfl ?_
  refine nd_callI (mm2 := mJ3_init_3) (As := [_, _, _, _]) (mc2 := 0) (ms2 := 0) (d2 := d - 1) hC rfl rfl q1709 q159 q1707 q1708 rfl lmJ3_init_3 (Nat.le_of_ble_eq_true rfl) (by omega) rfl (by exact Nat.le_of_ble_eq_true rfl) (by omega) (by omega) dJ4_init_3_6 rfl ((ni_J3 hg hb ?_))
  refine nd_return hC rfl (by omega) (by omega) dJ4_init_3_9 (hk)
theorem ni_X9 (hg : nd_OK g) (hd : 2 ≤ d) {u v : Nat} (hk : K (.inl none) (h ++ [.inr (nX9, [.null, .null, .null, .null, .null, .int 0, .int (nI u), .int (nI v)])])) : nd_M g mX9_init d 0 0 [.ref h.length, .int (nI u), .int (nI v)] (h ++ [.inr (nX9, [.null, .null, .null, .null, .null, .int 0, .int 0, .int 0])]) K := by
  refine nd_enter hg (by decide) rfl (Nat.le_of_ble_eq_true rfl) (fun X hC => ?_)
  refine nd_aload_n hC dX9_init_0 rfl rfl ?_
  refine nd_null hC dX9_init_1 ?_
  refine nd_null hC dX9_init_2 ?_
  refine nd_iconst hC (v := nI 0) (by rfl) dX9_init_3 ?_
  refine nd_iconst hC (v := nI 0) (by rfl) dX9_init_4 ?_
  refine nd_callI (mm2 := mJ4_init_3) (As := [_, _, _, _]) (mc2 := 0) (ms2 := 0) (d2 := d - 1) hC rfl rfl q1706 q160 q1704 q1705 rfl lmJ4_init_3 (Nat.le_of_ble_eq_true rfl) (by omega) rfl (by exact Nat.le_of_ble_eq_true rfl) (by omega) (by omega) dX9_init_5 rfl ((ni_J4 hg (by omega) l_at_last ?_))
  rw [l_set_last]
  refine nd_aload_n hC dX9_init_8 rfl rfl ?_
  refine nd_iload_n hC dX9_init_9 rfl ?_
  refine nd_putF (ci := nX9) hC in_X9 rfl l_at_last 6 (by decide) tyX9 tyX9_ok (by decide +kernel) q1710 (fun _ z => z) rfl rfl rfl rfl rfl (by show 6 < 8; decide) dX9_init_10 ?_
  rw [l_set_last]
  refine nd_aload_n hC dX9_init_13 rfl rfl ?_
  refine nd_iload_n hC dX9_init_14 rfl ?_
  refine nd_putF (ci := nX9) hC in_X9 rfl l_at_last 7 (by decide) tyX9 tyX9_ok (by decide +kernel) q1712 (fun _ z => z) rfl rfl rfl rfl rfl (by show 7 < 8; decide) dX9_init_15 ?_
  rw [l_set_last]
  refine nd_return hC rfl (by omega) (by omega) dX9_init_18 (hk)
/-! ===== constructors of laws ===== -/
theorem ni_X10 (hg : nd_OK g) {v : Nat} (hb : h[b]? = some (.inr (nX10, [.int 0]))) (hk : K (.inl none) (h.set b (.inr (nX10, [.int (nI v)])))) : nd_M g mX10_init d 0 0 [.ref b, .int (nI v)] h K := by
  refine nd_enter hg (by decide) rfl (Nat.le_of_ble_eq_true rfl) (fun X hC => ?_)
  refine nd_aload_n hC dX10_init_0 rfl rfl ?_
  refine nd_objInit hC q1794 q225 q226 (by exact Nat.le_of_ble_eq_true rfl) dX10_init_1 ?_
  refine nd_aload_n hC dX10_init_4 rfl rfl ?_
  refine nd_iload_n hC dX10_init_5 rfl ?_
  refine nd_putF (ci := nX10) hC in_X10 rfl hb 0 (by decide) tyX10 tyX10_ok (by decide +kernel) q1795 (fun _ z => z) rfl rfl rfl rfl rfl (by show 0 < 1; decide) dX10_init_6 ?_
  refine nd_return hC rfl (by omega) (by omega) dX10_init_9 (hk)
theorem ni_X11 (hg : nd_OK g) {v : Nat} (hb : h[b]? = some (.inr (nX11, [.int 0]))) (hk : K (.inl none) (h.set b (.inr (nX11, [.int (nI v)])))) : nd_M g mX11_init d 0 0 [.ref b, .int (nI v)] h K := by
  refine nd_enter hg (by decide) rfl (Nat.le_of_ble_eq_true rfl) (fun X hC => ?_)
  refine nd_aload_n hC dX11_init_0 rfl rfl ?_
  refine nd_objInit hC q1804 q225 q226 (by exact Nat.le_of_ble_eq_true rfl) dX11_init_1 ?_
  refine nd_aload_n hC dX11_init_4 rfl rfl ?_
  refine nd_iload_n hC dX11_init_5 rfl ?_
  refine nd_putF (ci := nX11) hC in_X11 rfl hb 0 (by decide) tyX11 tyX11_ok (by decide +kernel) q1805 (fun _ z => z) rfl rfl rfl rfl rfl (by show 0 < 1; decide) dX11_init_6 ?_
  refine nd_return hC rfl (by omega) (by omega) dX11_init_9 (hk)
theorem ni_twoX13 (hg : nd_OK g) {u v : Nat} (hb : h[b]? = some (.inr (nX13, [.null, .null]))) (hk : K (.inl none) (h.set b (.inr (nX13, [.ref u, .ref v])))) : nd_M g mX12_init d 0 0 [.ref b, .ref u, .ref v] h K := by
  have hlt := nd_get_lt hb
  refine nd_enter hg (by decide) rfl (Nat.le_of_ble_eq_true rfl) (fun X hC => ?_)
  refine nd_aload_n hC dX12_init_0 rfl rfl ?_
  refine nd_objInit hC q1821 q225 q226 (by exact Nat.le_of_ble_eq_true rfl) dX12_init_1 ?_
  refine nd_aload_n hC dX12_init_4 rfl rfl ?_
  refine nd_aload_n hC dX12_init_5 rfl rfl ?_
  refine nd_putF (ci := nX13) hC in_X13 rfl hb 0 (by decide) tyX13 tyX13_ok (by decide +kernel) q1822 (fun _ z => z) rfl rfl rfl rfl rfl (by show 0 < 2; decide) dX12_init_6 ?_
  refine nd_aload_n hC dX12_init_9 rfl rfl ?_
  refine nd_aload_n hC dX12_init_10 rfl rfl ?_
  refine nd_putF (ci := nX13) hC in_X13 rfl (List.getElem?_set_self hlt) 1 (by decide) tyX13 tyX13_ok (by decide +kernel) q1823 (fun _ z => z) rfl rfl rfl rfl rfl (by show 1 < 2; decide) dX12_init_11 ?_
  rw [List.set_set]
  refine nd_return hC rfl (by omega) (by omega) dX12_init_14 (hk)
theorem ni_X13 (hg : nd_OK g) (hd : 1 ≤ d) {u v : Nat} (hb : h[b]? = some (.inr (nX13, [.null, .null]))) (hk : K (.inl none) (h.set b (.inr (nX13, [.ref u, .ref v])))) : nd_M g mX13_init d 0 0 [.ref b, .ref u, .ref v] h K := by
  refine nd_enter hg (by decide) rfl (Nat.le_of_ble_eq_true rfl) (fun X hC => ?_)
  refine nd_aload_n hC dX13_init_0 rfl rfl ?_
  refine nd_aload_n hC dX13_init_1 rfl rfl ?_
  refine nd_aload_n hC dX13_init_2 rfl rfl ?_
  refine nd_callI (mm2 := mX12_init) (As := [_, _]) (mc2 := 0) (ms2 := 0) (d2 := d - 1) hC rfl rfl q1820 q179 q1818 q1819 rfl lmX12_init (Nat.le_of_ble_eq_true rfl) (by omega) rfl (by exact Nat.le_of_ble_eq_true rfl) (by omega) (by omega) dX13_init_3 rfl ((ni_twoX13 hg hb ?_))
  refine nd_return hC rfl (by omega) (by omega) dX13_init_6 (hk)
theorem ni_twoX14 (hg : nd_OK g) {u v : Nat} (hb : h[b]? = some (.inr (nX14, [.null, .null]))) (hk : K (.inl none) (h.set b (.inr (nX14, [.ref u, .ref v])))) : nd_M g mX12_init d 0 0 [.ref b, .ref u, .ref v] h K := by
  have hlt := nd_get_lt hb
  refine nd_enter hg (by decide) rfl (Nat.le_of_ble_eq_true rfl) (fun X hC => ?_)
  refine nd_aload_n hC dX12_init_0 rfl rfl ?_
  refine nd_objInit hC q1821 q225 q226 (by exact Nat.le_of_ble_eq_true rfl) dX12_init_1 ?_
  refine nd_aload_n hC dX12_init_4 rfl rfl ?_
  refine nd_aload_n hC dX12_init_5 rfl rfl ?_
  refine nd_putF (ci := nX14) hC in_X14 rfl hb 0 (by decide) tyX14 tyX14_ok (by decide +kernel) q1822 (fun _ z => z) rfl rfl rfl rfl rfl (by show 0 < 2; decide) dX12_init_6 ?_
  refine nd_aload_n hC dX12_init_9 rfl rfl ?_
  refine nd_aload_n hC dX12_init_10 rfl rfl ?_
  refine nd_putF (ci := nX14) hC in_X14 rfl (List.getElem?_set_self hlt) 1 (by decide) tyX14 tyX14_ok (by decide +kernel) q1823 (fun _ z => z) rfl rfl rfl rfl rfl (by show 1 < 2; decide) dX12_init_11 ?_
  rw [List.set_set]
  refine nd_return hC rfl (by omega) (by omega) dX12_init_14 (hk)
theorem ni_X14 (hg : nd_OK g) (hd : 1 ≤ d) {u v : Nat} (hb : h[b]? = some (.inr (nX14, [.null, .null]))) (hk : K (.inl none) (h.set b (.inr (nX14, [.ref u, .ref v])))) : nd_M g mX14_init d 0 0 [.ref b, .ref u, .ref v] h K := by
  refine nd_enter hg (by decide) rfl (Nat.le_of_ble_eq_true rfl) (fun X hC => ?_)
  refine nd_aload_n hC dX14_init_0 rfl rfl ?_
  refine nd_aload_n hC dX14_init_1 rfl rfl ?_
  refine nd_aload_n hC dX14_init_2 rfl rfl ?_
  refine nd_callI (mm2 := mX12_init) (As := [_, _]) (mc2 := 0) (ms2 := 0) (d2 := d - 1) hC rfl rfl q1820 q179 q1834 q1819 rfl lmX12_init (Nat.le_of_ble_eq_true rfl) (by omega) rfl (by exact Nat.le_of_ble_eq_true rfl) (by omega) (by omega) dX14_init_3 rfl ((ni_twoX14 hg hb ?_))
  refine nd_return hC rfl (by omega) (by omega) dX14_init_6 (hk)
theorem ni_twoX15 (hg : nd_OK g) {u v : Nat} (hb : h[b]? = some (.inr (nX15, [.null, .null]))) (hk : K (.inl none) (h.set b (.inr (nX15, [.ref u, .ref v])))) : nd_M g mX12_init d 0 0 [.ref b, .ref u, .ref v] h K := by
  have hlt := nd_get_lt hb
  refine nd_enter hg (by decide) rfl (Nat.le_of_ble_eq_true rfl) (fun X hC => ?_)
  refine nd_aload_n hC dX12_init_0 rfl rfl ?_
  refine nd_objInit hC q1821 q225 q226 (by exact Nat.le_of_ble_eq_true rfl) dX12_init_1 ?_
  refine nd_aload_n hC dX12_init_4 rfl rfl ?_
  refine nd_aload_n hC dX12_init_5 rfl rfl ?_
  refine nd_putF (ci := nX15) hC in_X15 rfl hb 0 (by decide) tyX15 tyX15_ok (by decide +kernel) q1822 (fun _ z => z) rfl rfl rfl rfl rfl (by show 0 < 2; decide) dX12_init_6 ?_
  refine nd_aload_n hC dX12_init_9 rfl rfl ?_
  refine nd_aload_n hC dX12_init_10 rfl rfl ?_
  refine nd_putF (ci := nX15) hC in_X15 rfl (List.getElem?_set_self hlt) 1 (by decide) tyX15 tyX15_ok (by decide +kernel) q1823 (fun _ z => z) rfl rfl rfl rfl rfl (by show 1 < 2; decide) dX12_init_11 ?_
  rw [List.set_set]
  refine nd_return hC rfl (by omega) (by omega) dX12_init_14 (hk)
theorem ni_X15 (hg : nd_OK g) (hd : 1 ≤ d) {u v : Nat} (hb : h[b]? = some (.inr (nX15, [.null, .null]))) (hk : K (.inl none) (h.set b (.inr (nX15, [.ref u, .ref v])))) : nd_M g mX15_init d 0 0 [.ref b, .ref u, .ref v] h K := by
  refine nd_enter hg (by decide) rfl (Nat.le_of_ble_eq_true rfl) (fun X hC => ?_)
  refine nd_aload_n hC dX15_init_0 rfl rfl ?_
  refine nd_aload_n hC dX15_init_1 rfl rfl ?_
  refine nd_aload_n hC dX15_init_2 rfl rfl ?_
  refine nd_callI (mm2 := mX12_init) (As := [_, _]) (mc2 := 0) (ms2 := 0) (d2 := d - 1) hC rfl rfl q1820 q179 q1847 q1819 rfl lmX12_init (Nat.le_of_ble_eq_true rfl) (by omega) rfl (by exact Nat.le_of_ble_eq_true rfl) (by omega) (by omega) dX15_init_3 rfl ((ni_twoX15 hg hb ?_))
  refine nd_return hC rfl (by omega) (by omega) dX15_init_6 (hk)
theorem ni_X18 (hg : nd_OK g) {u v : Nat} (hb : h[b]? = some (.inr (nX18, [.null, .null]))) (hk : K (.inl none) (h.set b (.inr (nX18, [.ref u, .ref v])))) : nd_M g mX18_init d 0 0 [.ref b, .ref u, .ref v] h K := by
  have hlt := nd_get_lt hb
  refine nd_enter hg (by decide) rfl (Nat.le_of_ble_eq_true rfl) (fun X hC => ?_)
  refine nd_aload_n hC dX18_init_0 rfl rfl ?_
  refine nd_objInit hC q1897 q225 q226 (by exact Nat.le_of_ble_eq_true rfl) dX18_init_1 ?_
  refine nd_aload_n hC dX18_init_4 rfl rfl ?_
  refine nd_aload_n hC dX18_init_5 rfl rfl ?_
  refine nd_putF (ci := nX18) hC in_X18 rfl hb 0 (by decide) tyX18 tyX18_ok (by decide +kernel) q1898 (fun _ z => z) rfl rfl rfl rfl rfl (by show 0 < 2; decide) dX18_init_6 ?_
  refine nd_aload_n hC dX18_init_9 rfl rfl ?_
  refine nd_aload_n hC dX18_init_10 rfl rfl ?_
  refine nd_putF (ci := nX18) hC in_X18 rfl (List.getElem?_set_self hlt) 1 (by decide) tyX18 tyX18_ok (by decide +kernel) q1899 (fun _ z => z) rfl rfl rfl rfl rfl (by show 1 < 2; decide) dX18_init_11 ?_
  rw [List.set_set]
  refine nd_return hC rfl (by omega) (by omega) dX18_init_14 (hk)
theorem ni_twoX19 (hg : nd_OK g) {u v : Nat} (hb : h[b]? = some (.inr (nX19, [.null, .null]))) (hk : K (.inl none) (h.set b (.inr (nX19, [.ref u, .ref v])))) : nd_M g mX18_init d 0 0 [.ref b, .ref u, .ref v] h K := by
  have hlt := nd_get_lt hb
  refine nd_enter hg (by decide) rfl (Nat.le_of_ble_eq_true rfl) (fun X hC => ?_)
  refine nd_aload_n hC dX18_init_0 rfl rfl ?_
  refine nd_objInit hC q1897 q225 q226 (by exact Nat.le_of_ble_eq_true rfl) dX18_init_1 ?_
  refine nd_aload_n hC dX18_init_4 rfl rfl ?_
  refine nd_aload_n hC dX18_init_5 rfl rfl ?_
  refine nd_putF (ci := nX19) hC in_X19 rfl hb 0 (by decide) tyX19 tyX19_ok (by decide +kernel) q1898 (fun _ z => z) rfl rfl rfl rfl rfl (by show 0 < 2; decide) dX18_init_6 ?_
  refine nd_aload_n hC dX18_init_9 rfl rfl ?_
  refine nd_aload_n hC dX18_init_10 rfl rfl ?_
  refine nd_putF (ci := nX19) hC in_X19 rfl (List.getElem?_set_self hlt) 1 (by decide) tyX19 tyX19_ok (by decide +kernel) q1899 (fun _ z => z) rfl rfl rfl rfl rfl (by show 1 < 2; decide) dX18_init_11 ?_
  rw [List.set_set]
  refine nd_return hC rfl (by omega) (by omega) dX18_init_14 (hk)
theorem ni_X16 (hg : nd_OK g) {u : Nat} (hb : h[b]? = some (.inr (nX16, [.null]))) (hk : K (.inl none) (h.set b (.inr (nX16, [.ref u])))) : nd_M g mX16_init d 0 0 [.ref b, .ref u] h K := by
  have hlt := nd_get_lt hb
  refine nd_enter hg (by decide) rfl (Nat.le_of_ble_eq_true rfl) (fun X hC => ?_)
  refine nd_aload_n hC dX16_init_0 rfl rfl ?_
  refine nd_objInit hC q1870 q225 q226 (by exact Nat.le_of_ble_eq_true rfl) dX16_init_1 ?_
  refine nd_aload_n hC dX16_init_4 rfl rfl ?_
  refine nd_aload_n hC dX16_init_5 rfl rfl ?_
  refine nd_putF (ci := nX16) hC in_X16 rfl hb 0 (by decide) tyX16 tyX16_ok (by decide +kernel) q1871 (fun _ z => z) rfl rfl rfl rfl rfl (by show 0 < 1; decide) dX16_init_6 ?_
  refine nd_return hC rfl (by omega) (by omega) dX16_init_9 (hk)
theorem ni_X19 (hg : nd_OK g) (hd : 1 ≤ d) {u v : Nat} (hb : h[b]? = some (.inr (nX19, [.null, .null]))) (hk : K (.inl none) (((h ++ [(.inr (nX16, [.ref u]) : nd_C)]) ++ [(.inr (nX16, [.ref v]) : nd_C)]).set b (.inr (nX19, [.ref h.length, .ref (h.length + 1)])))) : nd_M g mX19_init d 2 2 [.ref b, .ref u, .ref v] h K := by
  have hlt := nd_get_lt hb
  refine nd_enter hg (by decide) rfl (Nat.le_of_ble_eq_true rfl) (fun X hC => ?_)
  refine nd_aload_n hC dX19_init_0 rfl rfl ?_
  refine nd_new (ci := nX16) hC [.null] in_X16 rfl tyX16 tyX16_ok q1911 q1866 q183 rfl rfl (by omega) (by omega) dX19_init_1 ?_
  refine nd_dup hC (by rfl) dX19_init_4 ?_
  refine nd_aload_n hC dX19_init_5 rfl rfl ?_
  refine nd_callI (mm2 := mX16_init) (As := [_]) (mc2 := 0) (ms2 := 0) (d2 := d - 1) hC rfl rfl q1869 q183 q1912 q1868 rfl lmX16_init (Nat.le_of_ble_eq_true rfl) (by omega) rfl (by exact Nat.le_of_ble_eq_true rfl) (by omega) (by omega) dX19_init_6 rfl ((ni_X16 hg l_at_last ?_))
  rw [l_set_last]
  refine nd_new (ci := nX16) hC [.null] in_X16 rfl tyX16 tyX16_ok q1911 q1866 q183 rfl rfl (by omega) (by omega) dX19_init_9 ?_
  have el : (h ++ [(.inr (nX16, [.ref u]) : nd_C)]).length = h.length + 1 := by rw [List.length_append]; rfl
  refine nd_dup hC (by rfl) dX19_init_12 ?_
  refine nd_aload_n hC dX19_init_13 rfl rfl ?_
  refine nd_callI (mm2 := mX16_init) (As := [_]) (mc2 := 0) (ms2 := 0) (d2 := d - 1) hC rfl rfl q1869 q183 q1912 q1868 rfl lmX16_init (Nat.le_of_ble_eq_true rfl) (by omega) rfl (by exact Nat.le_of_ble_eq_true rfl) (by omega) (by omega) dX19_init_14 rfl ((ni_X16 hg l_at_last ?_))
  rw [l_set_last, el]
  refine nd_callI (mm2 := mX18_init) (As := [_, _]) (mc2 := 0) (ms2 := 0) (d2 := d - 1) hC rfl rfl q1896 q185 q1913 q1895 rfl lmX18_init (Nat.le_of_ble_eq_true rfl) (by omega) rfl (by exact Nat.le_of_ble_eq_true rfl) (by omega) (by omega) dX19_init_17 rfl ((ni_twoX19 hg ?_ ?_))
  · rw [List.append_assoc, List.getElem?_append_left hlt]; exact hb
  · refine nd_return hC rfl (by omega) (by omega) dX19_init_20 (hk)
theorem ni_X17 (hg : nd_OK g) {u v : Nat} {sg : Int32} (hb : h[b]? = some (.inr (nX17, [.null, .null, .int 0]))) (hk : K (.inl none) (h.set b (.inr (nX17, [.ref u, .ref v, .int sg])))) : nd_M g mX17_init d 0 0 [.ref b, .ref u, .int sg, .ref v] h K := by
  have hlt := nd_get_lt hb
  refine nd_enter hg (by decide) rfl (Nat.le_of_ble_eq_true rfl) (fun X hC => ?_)
  refine nd_aload_n hC dX17_init_0 rfl rfl ?_
  refine nd_objInit hC q1880 q225 q226 (by exact Nat.le_of_ble_eq_true rfl) dX17_init_1 ?_
  refine nd_aload_n hC dX17_init_4 rfl rfl ?_
  refine nd_aload_n hC dX17_init_5 rfl rfl ?_
  refine nd_putF (ci := nX17) hC in_X17 rfl hb 0 (by decide) tyX17 tyX17_ok (by decide +kernel) q1881 (fun _ z => z) rfl rfl rfl rfl rfl (by show 0 < 3; decide) dX17_init_6 ?_
  refine nd_aload_n hC dX17_init_9 rfl rfl ?_
  refine nd_iload_n hC dX17_init_10 rfl ?_
  refine nd_putF (ci := nX17) hC in_X17 rfl (List.getElem?_set_self hlt) 2 (by decide) tyX17 tyX17_ok (by decide +kernel) q1883 (fun _ z => z) rfl rfl rfl rfl rfl (by show 2 < 3; decide) dX17_init_11 ?_
  rw [List.set_set]
  refine nd_aload_n hC dX17_init_14 rfl rfl ?_
  refine nd_aload_n hC dX17_init_15 rfl rfl ?_
  refine nd_putF (ci := nX17) hC in_X17 rfl (List.getElem?_set_self hlt) 1 (by decide) tyX17 tyX17_ok (by decide +kernel) q1882 (fun _ z => z) rfl rfl rfl rfl rfl (by show 1 < 3; decide) dX17_init_16 ?_
  rw [List.set_set]
  refine nd_return hC rfl (by omega) (by omega) dX17_init_19 (hk)
end BD96
/-! ===== the class's reader: what a token is, faults ===== -/
/-- only the reader has changed, cells may have come -/
def rd_f (r : Nat) (h h2 : nd_H) : Prop := h.length ≤ h2.length ∧ ∀ a, a < h.length → a ≠ r → h2[a]? = h[a]?
theorem rd_f.rfl {r : Nat} {h : nd_H} : rd_f r h h := ⟨Nat.le_refl _, fun _ _ _ => Eq.refl _⟩
theorem rd_f.trans {r : Nat} {h h2 h3 : nd_H} (a : rd_f r h h2) (b : rd_f r h2 h3) : rd_f r h h3 := ⟨Nat.le_trans a.1 b.1, fun x z1 z2 => (b.2 x (Nat.lt_of_lt_of_le z1 a.1) z2).trans (a.2 x z1 z2)⟩
theorem rd_f.set {r : Nat} {h : nd_H} {c : nd_C} : rd_f r h (h.set r c) := ⟨by rw [List.length_set]; exact Nat.le_refl _, fun a _ z => List.getElem?_set_ne (Ne.symm z)⟩
theorem rd_f.app {r : Nat} {h js : nd_H} : rd_f r h (h ++ js) := ⟨by rw [List.length_append]; omega, fun a z _ => List.getElem?_append_left z⟩
theorem rd_T.f {h h2 : nd_H} {T : List Nat} {r : Nat} (H : rd_T h T) (f : rd_f r h h2) (hr : r ≠ 92) : rd_T h2 T := by
  obtain ⟨tf, a, b⟩ := H
  exact ⟨tf, (f.2 92 (nd_get_lt a) (Ne.symm hr)).trans a, b⟩
/-- a fault lies at k -/
def rd_B (h : nd_H) (k : Nat) (e : Nat × Nat) : Prop := h[k]? = some (.inr (nX9, [.null, .null, .null, .null, .null, .int 0, .int (nI e.1), .int (nI e.2)]))
abbrev eBad : String := "NapkinDeeds$Bad"
/-- what is to be done with a fault -/
def rd_E (r : Nat) (h : nd_H) (K : nd_K) (e : Nat × Nat) : Prop := ∀ h2 k, rd_f r h h2 → rd_B h2 k e → K (.inr (eBad, k)) h2
theorem rd_E.f {r : Nat} {h h2 : nd_H} {K : nd_K} {e : Nat × Nat} (H : rd_E r h K e) (f : rd_f r h h2) : rd_E r h2 K e := fun h3 k f3 b => H h3 k (f.trans f3) b
theorem tx_kc {T : List Nat} {p : Nat} (h : 4 ≤ tx_k T p) : tx_k T p = T.getD (tx_b T p) 0 ∧ tx_b T p < T.length ∧ tx_sg (T.getD (tx_b T p) 0) = true := by
  unfold tx_k tx_c at h ⊢
  by_cases c : T.length ≤ tx_b T p
  · rw [if_pos c] at h; omega
  · rw [if_neg c] at h ⊢
    by_cases c1 : tx_al (T.getD (tx_b T p) 0) = true
    · rw [if_pos c1] at h; omega
    · rw [if_neg c1] at h ⊢
      by_cases c2 : tx_dg (T.getD (tx_b T p) 0) = true
      · rw [if_pos c2] at h
        split at h <;> omega
      · rw [if_neg c2] at h ⊢
        by_cases c3 : tx_sg (T.getD (tx_b T p) 0) = true
        · rw [if_pos c3]; exact ⟨rfl, by omega, c3⟩
        · rw [if_neg c3] at h; omega
theorem tx_kw {T : List Nat} {p : Nat} (h : tx_k T p = 1) : tx_h T p ≤ T.length ∧ tx_b T p < T.length := by
  unfold tx_k tx_c at h
  unfold tx_h tx_c
  by_cases c : T.length ≤ tx_b T p
  · rw [if_pos c] at h; omega
  · rw [if_neg c] at h ⊢
    by_cases c1 : tx_al (T.getD (tx_b T p) 0) = true
    · rw [if_pos c1]; exact ⟨tx_end_le _ _ (by omega), by omega⟩
    · rw [if_neg c1] at h
      by_cases c2 : tx_dg (T.getD (tx_b T p) 0) = true
      · rw [if_pos c2] at h
        split at h <;> omega
      · rw [if_neg c2] at h
        split at h
        · next z => have := tx_sg_in z; omega
        · omega
section RD96
variable {g : nd_G} {d : Nat} {K : nd_K} {h : nd_H} {T : List Nat} {r wr md p dp m : Nat}
theorem rd_isC (hg : nd_OK g) (hT : rd_T h T) (hR : rd_R h r wr md T p dp m) {c : Nat} (hc4 : 4 ≤ c) (hc : c < 128) (hk : K (.inl (some (.int (nd_b (decide (tx_k T p = c)))))) h) : nd_M g mX8_is_2 d 0 0 [.ref r, .int (nI c)] h K := by
  obtain ⟨nu, hb, -⟩ := hR
  obtain ⟨tf, t1, t2, t3, t4⟩ := hT
  have kl := kd_le (tx_k T p)
  have h1 := t4 (tx_b T p)
  refine nd_enter hg (by decide) rfl (Nat.le_of_ble_eq_true rfl) (fun X hC => ?_)
  refine nd_aload_n hC dX8_is_2_0 rfl rfl ?_
  refine nd_get (ci := nX8) hC in_X8 rfl hb 6 (by decide) q1630 (fun _ z => z) rfl dX8_is_2_1 ?_
  refine nd_iconst hC (v := nI 3) (by rfl) dX8_is_2_4 ?_
  first | with_reducible refine nd_icmp_neN hC (tgt := 25) (by omega) (by omega) dX8_is_2_5 (by decide) (fun hq => ?_) (fun hq => ?_) | refine nd_icmp_ne hC (tgt := 25) dX8_is_2_5 (by decide) (fun hq => ?_) (fun hq => ?_)
  · have z : ¬ 4 ≤ tx_k T p := fun y => hq (kd_3.2 y)
    rw [decide_eq_false (by omega)] at hk
    refine nd_iconst hC (v := nI 0) (by rfl) dX8_is_2_25 ?_
    refine nd_ireturn hC rfl (by first | rfl | exact nd_b_nar _) (by omega) (by omega) dX8_is_2_26 (hk)
  have z : 4 ≤ tx_k T p := kd_3.1 (by omega)
  obtain ⟨z1, z2, -⟩ := tx_kc z
  refine nd_aload_n hC dX8_is_2_8 rfl rfl ?_
  refine nd_get (ci := nX8) hC in_X8 rfl hb 1 (by decide) q1625 (fun _ z => z) rfl dX8_is_2_9 ?_
  refine nd_aload_n hC dX8_is_2_12 rfl rfl ?_
  refine nd_get (ci := nX8) hC in_X8 rfl hb 4 (by decide) q1628 (fun _ z => z) rfl dX8_is_2_13 ?_
  refine nd_baloadN hC t1 (by omega) (by omega) dX8_is_2_16 ?_
  refine nd_v_eq (congrArg Value.int (t2 _ z2)) ?_
  refine nd_iload_n hC dX8_is_2_17 rfl ?_
  refine nd_icmp_ne hC (tgt := 25) dX8_is_2_18 (by decide) (fun hq2 => ?_) (fun hq2 => ?_)
  · have hq2 : ¬ T.getD (tx_b T p) 0 = c := fun y => hq2 ((i_sb_eq h1 hc).2 y)
    rw [decide_eq_false (by omega)] at hk
    refine nd_iconst hC (v := nI 0) (by rfl) dX8_is_2_25 ?_
    refine nd_ireturn hC rfl (by first | rfl | exact nd_b_nar _) (by omega) (by omega) dX8_is_2_26 (hk)
  · have hq2 : i_sb (T.getD (tx_b T p) 0) = nI c := hq2
    rw [i_sb_eq h1 hc] at hq2
    rw [decide_eq_true (by omega)] at hk
    refine nd_iconst hC (v := nI 1) (by rfl) dX8_is_2_21 ?_
    refine nd_goto hC (tgt := 26) dX8_is_2_22 (by decide) ?_
    refine nd_ireturn hC rfl (by first | rfl | exact nd_b_nar _) (by omega) (by omega) dX8_is_2_26 (hk)
theorem rd_isS (hg : nd_OK g) (hd : 4 ≤ d) (hT : rd_T h T) (hR : rd_R h r wr md T p dp m) {i : Nat} {rr : String × Nat × String × List Nat} (hr : nd_str[i]? = some rr) (hk : K (.inl (some (.int (nd_b (tx_w T p rr.2.2.2))))) h) : nd_M g mX8_is d 0 0 [.ref r, nd_f i] h K := by
  obtain ⟨nu, hb, -⟩ := hR
  obtain ⟨tf, t1, t2, t3, t4⟩ := hT
  have kl := kd_le (tx_k T p)
  have hl := nd_str_len hr
  have hhb := tx_h_ge T p
  unfold tx_w at hk
  have JF : (decide (tx_k T p = 1) && decide (tx_h T p - tx_b T p = rr.2.2.2.length)) = false → ∀ X, nd_Cx g mX8_is X → nd_W g mX8_is d 0 0 K X 24 [some (.ref r), some (nd_f i), none] [] h 0 0 := by
    intro e X hC
    rw [e, Bool.false_and] at hk
    refine nd_iconst hC (v := nI 0) (by rfl) dX8_is_24 ?_
    refine nd_ireturn hC rfl (by first | rfl | exact nd_b_nar _) (by omega) (by omega) dX8_is_25 (hk)
  refine nd_enter hg (by decide) rfl (Nat.le_of_ble_eq_true rfl) (fun X hC => ?_)
  refine nd_aload_n hC dX8_is_0 rfl rfl ?_
  refine nd_get (ci := nX8) hC in_X8 rfl hb 6 (by decide) q1630 (fun _ z => z) rfl dX8_is_1 ?_
  refine nd_iconst hC (v := nI 1) (by rfl) dX8_is_4 ?_
  first | with_reducible refine nd_icmp_neN hC (tgt := 24) (by omega) (by omega) dX8_is_5 (by decide) (fun hq => ?_) (fun hq => ?_) | refine nd_icmp_ne hC (tgt := 24) dX8_is_5 (by decide) (fun hq => ?_) (fun hq => ?_)
  · exact JF (by rw [decide_eq_false (fun y => hq (kd_1.2 y)), Bool.false_and]) X hC
  have z : tx_k T p = 1 := kd_1.1 (by omega)
  obtain ⟨z1, z2⟩ := tx_kw z
  refine nd_aload_n hC dX8_is_8 rfl rfl ?_
  refine nd_get (ci := nX8) hC in_X8 rfl hb 5 (by decide) q1629 (fun _ z => z) rfl dX8_is_9 ?_
  refine nd_aload_n hC dX8_is_12 rfl rfl ?_
  refine nd_get (ci := nX8) hC in_X8 rfl hb 4 (by decide) q1628 (fun _ z => z) rfl dX8_is_13 ?_
  first | with_reducible refine nd_isubN hC (by omega) dX8_is_16 ?_ | refine nd_isub hC dX8_is_16 ?_
  refine nd_aload_n hC dX8_is_17 rfl rfl ?_
  refine nd_callVF (mm2 := mJ7_length) (As := []) (d2 := d - 1) hC (hr) rfl lkX8_76 ⟨rfl, lmJ7_length⟩ (Nat.le_of_ble_eq_true rfl) (by omega) rfl (by exact Nat.le_of_ble_eq_true rfl) (by omega) (by omega) dX8_is_18 rfl ((sq_length hg (by omega) hr ?_))
  first | with_reducible refine nd_icmp_eqN hC (tgt := 26) (by omega) (by omega) dX8_is_21 (by decide) (fun hq2 => ?_) (fun hq2 => ?_) | refine nd_icmp_eq hC (tgt := 26) dX8_is_21 (by decide) (fun hq2 => ?_) (fun hq2 => ?_)
  rotate_left
  · exact JF (by rw [decide_eq_false (show ¬ tx_h T p - tx_b T p = rr.2.2.2.length by omega), Bool.and_false]) X hC
  rw [decide_eq_true z, decide_eq_true (show tx_h T p - tx_b T p = rr.2.2.2.length by omega), Bool.true_and, Bool.true_and] at hk
  refine nd_iconst hC (v := nI 0) (by rfl) dX8_is_26 ?_
  refine nd_istore_n hC dX8_is_27 (Nat.le_of_ble_eq_true rfl) ?_
  have L : ∀ k, k ≤ rr.2.2.2.length → (∀ j, j < k → (T.getD (tx_b T p + j) 0 == rr.2.2.2.getD j 0) = true) → nd_W g mX8_is d 0 0 K X 28 [some (.ref r), some (nd_f i), some (.int (nI k))] [] h 0 0 := by
    refine nd_for _ _ ?_ ?_
    · intro ha
      rw [nd_allT ha] at hk
      refine nd_iload_n hC dX8_is_28 rfl ?_
      refine nd_aload_n hC dX8_is_29 rfl rfl ?_
      refine nd_callVF (mm2 := mJ7_length) (As := []) (d2 := d - 1) hC (hr) rfl lkX8_76 ⟨rfl, lmJ7_length⟩ (Nat.le_of_ble_eq_true rfl) (by omega) rfl (by exact Nat.le_of_ble_eq_true rfl) (by omega) (by omega) dX8_is_30 rfl ((sq_length hg (by omega) hr ?_))
      first | with_reducible refine nd_icmp_geN hC (tgt := 63) (by omega) (by omega) dX8_is_33 (by decide) (fun hq3 => ?_) (fun hq3 => ?_) | refine nd_icmp_ge hC (tgt := 63) dX8_is_33 (by decide) (fun hq3 => ?_) (fun hq3 => ?_)
      · refine nd_iconst hC (v := nI 1) (by rfl) dX8_is_63 ?_
        refine nd_ireturn hC rfl (by first | rfl | exact nd_b_nar _) (by omega) (by omega) dX8_is_64 (hk)
      · omega
    · intro k hk1 ih ha
      have hch := nd_str_by hr k
      have h1 := t4 (tx_b T p + k)
      refine nd_iload_n hC dX8_is_28 rfl ?_
      refine nd_aload_n hC dX8_is_29 rfl rfl ?_
      refine nd_callVF (mm2 := mJ7_length) (As := []) (d2 := d - 1) hC (hr) rfl lkX8_76 ⟨rfl, lmJ7_length⟩ (Nat.le_of_ble_eq_true rfl) (by omega) rfl (by exact Nat.le_of_ble_eq_true rfl) (by omega) (by omega) dX8_is_30 rfl ((sq_length hg (by omega) hr ?_))
      first | with_reducible refine nd_icmp_geN hC (tgt := 63) (by omega) (by omega) dX8_is_33 (by decide) (fun hq3 => ?_) (fun hq3 => ?_) | refine nd_icmp_ge hC (tgt := 63) dX8_is_33 (by decide) (fun hq3 => ?_) (fun hq3 => ?_)
      · omega
      refine nd_aload_n hC dX8_is_36 rfl rfl ?_
      refine nd_get (ci := nX8) hC in_X8 rfl hb 1 (by decide) q1625 (fun _ z => z) rfl dX8_is_37 ?_
      refine nd_aload_n hC dX8_is_40 rfl rfl ?_
      refine nd_get (ci := nX8) hC in_X8 rfl hb 4 (by decide) q1628 (fun _ z => z) rfl dX8_is_41 ?_
      refine nd_iload_n hC dX8_is_44 rfl ?_
      first | with_reducible refine nd_iaddN hC dX8_is_45 ?_ | refine nd_iadd hC dX8_is_45 ?_
      refine nd_baloadN hC t1 (by omega) (by omega) dX8_is_46 ?_
      refine nd_v_eq (congrArg Value.int (t2 (tx_b T p + k) (by omega))) ?_
      refine nd_aload_n hC dX8_is_47 rfl rfl ?_
      refine nd_iload_n hC dX8_is_48 rfl ?_
      refine nd_callVF (mm2 := mJ7_charAt) (As := [_]) (d2 := d - 1) hC (hr) rfl lkX8_80 ⟨rfl, lmJ7_charAt⟩ (Nat.le_of_ble_eq_true rfl) (by omega) rfl (by exact Nat.le_of_ble_eq_true rfl) (by omega) (by omega) dX8_is_49 rfl ((sq_charAt hg (by omega) hr hk1 ?_))
      refine nd_icmp_eq hC (tgt := 57) dX8_is_52 (by decide) (fun hq4 => ?_) (fun hq4 => ?_)
      · rw [i_sb_eq h1 hch] at hq4
        first | with_reducible refine nd_iincN hC dX8_is_57 rfl (Nat.le_of_ble_eq_true rfl) ?_ | refine nd_iinc hC dX8_is_57 rfl rfl (Nat.le_of_ble_eq_true rfl) ?_
        refine nd_goto hC (tgt := 28) dX8_is_60 (by decide) ?_
        refine ih (fun j hj => ?_)
        by_cases e : j = k
        · rw [e, beq_iff_eq]; exact hq4
        · exact ha j (by omega)
      · have hq4 : ¬ T.getD (tx_b T p + k) 0 = rr.2.2.2.getD k 0 := fun y => hq4 ((i_sb_eq h1 hch).2 y)
        rw [nd_allF (c := fun k => T.getD (tx_b T p + k) 0 == rr.2.2.2.getD k 0) hk1 (beq_eq_false_iff_ne.2 hq4)] at hk
        refine nd_iconst hC (v := nI 0) (by rfl) dX8_is_55 ?_
        refine nd_ireturn hC rfl (by first | rfl | exact nd_b_nar _) (by omega) (by omega) dX8_is_56 (hk)
  exact L 0 (Nat.zero_le _) (fun j hj => absurd hj (Nat.not_lt_zero _))
/-- on to the next token -/
theorem rd_on (hg : nd_OK g) (hd : 4 ≤ d) (hT : rd_T h T) (hr : r ≠ 92) (hp : p ≤ T.length) (hR : rd_R h r wr md T p dp m) (hk : ∀ h2, rd_R h2 r wr md T (tx_h T p) dp m → rd_f r h h2 → h2.length = h.length → K (.inl none) h2) : nd_M g mX8_next d 0 0 [.ref r] h K := by
  obtain ⟨nu, hb, -⟩ := hR
  exact rd_next hg hd hT hr (tx_h_le T hp) hb (fun c H => hk _ H rd_f.set List.length_set)
theorem rd_eatsC (hg : nd_OK g) (hd : 5 ≤ d) (hT : rd_T h T) (hr : r ≠ 92) (hp : p ≤ T.length) (hR : rd_R h r wr md T p dp m) {c : Nat} (hc4 : 4 ≤ c) (hc : c < 128) (hk : tx_k T p = c → ∀ h2, rd_R h2 r wr md T (tx_h T p) dp m → rd_f r h h2 → h2.length = h.length → K (.inl (some (.int (nd_b true)))) h2) (hn : tx_k T p ≠ c → K (.inl (some (.int (nd_b false)))) h) : nd_M g mX8_eats_2 d 0 0 [.ref r, .int (nI c)] h K := by
  obtain ⟨nu, hb, -⟩ := id hR
  refine nd_enter hg (by decide) rfl (Nat.le_of_ble_eq_true rfl) (fun X hC => ?_)
  refine nd_aload_n hC dX8_eats_2_0 rfl rfl ?_
  refine nd_iload_n hC dX8_eats_2_1 rfl ?_
  refine nd_callV (mm2 := mX8_is_2) (As := [_]) (mc2 := 0) (ms2 := 0) (d2 := d - 1) hC rfl lkX8_88 ⟨rfl, lmX8_is_2⟩ (hb) rfl (Nat.le_of_ble_eq_true rfl) (by omega) rfl (by exact Nat.le_of_ble_eq_true rfl) (by omega) (by omega) dX8_eats_2_2 rfl ((rd_isC hg hT hR hc4 hc ?_))
  by_cases z : tx_k T p = c
  · rw [decide_eq_true z]
    refine nd_istore_n hC dX8_eats_2_5 (Nat.le_of_ble_eq_true rfl) ?_
    refine nd_iload_n hC dX8_eats_2_6 rfl ?_
    refine nd_if_eqB hC (tgt := 14) dX8_eats_2_7 (by decide) (fun hq => absurd hq (by decide)) (fun _ => ?_)
    refine nd_aload_n hC dX8_eats_2_10 rfl rfl ?_
    refine nd_callV (mm2 := mX8_next) (As := []) (mc2 := 0) (ms2 := 0) (d2 := d - 1) hC rfl lkX8_48 ⟨rfl, lmX8_next⟩ (hb) rfl (Nat.le_of_ble_eq_true rfl) (by omega) rfl (by exact Nat.le_of_ble_eq_true rfl) (by omega) (by omega) dX8_eats_2_11 rfl ((rd_on hg (by omega) hT hr hp hR (fun h2 a b e => ?_)))
    refine nd_iload_n hC dX8_eats_2_14 rfl ?_
    refine nd_ireturn hC rfl (by first | rfl | exact nd_b_nar _) (by omega) (by omega) dX8_eats_2_15 ((hk z h2 a b e))
  · rw [decide_eq_false z]
    refine nd_istore_n hC dX8_eats_2_5 (Nat.le_of_ble_eq_true rfl) ?_
    refine nd_iload_n hC dX8_eats_2_6 rfl ?_
    refine nd_if_eqB hC (tgt := 14) dX8_eats_2_7 (by decide) (fun _ => ?_) (fun hq => absurd hq (by decide))
    refine nd_iload_n hC dX8_eats_2_14 rfl ?_
    refine nd_ireturn hC rfl (by first | rfl | exact nd_b_nar _) (by omega) (by omega) dX8_eats_2_15 ((hn z))
theorem rd_eatsS (hg : nd_OK g) (hd : 5 ≤ d) (hT : rd_T h T) (hr : r ≠ 92) (hp : p ≤ T.length) (hR : rd_R h r wr md T p dp m) {i : Nat} {rr : String × Nat × String × List Nat} (hrs : nd_str[i]? = some rr) (hk : tx_w T p rr.2.2.2 = true → ∀ h2, rd_R h2 r wr md T (tx_h T p) dp m → rd_f r h h2 → h2.length = h.length → K (.inl (some (.int (nd_b true)))) h2) (hn : tx_w T p rr.2.2.2 = false → K (.inl (some (.int (nd_b false)))) h) : nd_M g mX8_eats d 0 0 [.ref r, nd_f i] h K := by
  obtain ⟨nu, hb, -⟩ := id hR
  refine nd_enter hg (by decide) rfl (Nat.le_of_ble_eq_true rfl) (fun X hC => ?_)
  refine nd_aload_n hC dX8_eats_0 rfl rfl ?_
  refine nd_aload_n hC dX8_eats_1 rfl rfl ?_
  refine nd_callV (mm2 := mX8_is) (As := [_]) (mc2 := 0) (ms2 := 0) (d2 := d - 1) hC rfl lkX8_84 ⟨rfl, lmX8_is⟩ (hb) rfl (Nat.le_of_ble_eq_true rfl) (by omega) rfl (by exact Nat.le_of_ble_eq_true rfl) (by omega) (by omega) dX8_eats_2 rfl ((rd_isS hg (by omega) hT hR hrs ?_))
  cases z : tx_w T p rr.2.2.2 with
  | true =>
    refine nd_istore_n hC dX8_eats_5 (Nat.le_of_ble_eq_true rfl) ?_
    refine nd_iload_n hC dX8_eats_6 rfl ?_
    refine nd_if_eqB hC (tgt := 14) dX8_eats_7 (by decide) (fun hq => absurd hq (by decide)) (fun _ => ?_)
    refine nd_aload_n hC dX8_eats_10 rfl rfl ?_
    refine nd_callV (mm2 := mX8_next) (As := []) (mc2 := 0) (ms2 := 0) (d2 := d - 1) hC rfl lkX8_48 ⟨rfl, lmX8_next⟩ (hb) rfl (Nat.le_of_ble_eq_true rfl) (by omega) rfl (by exact Nat.le_of_ble_eq_true rfl) (by omega) (by omega) dX8_eats_11 rfl ((rd_on hg (by omega) hT hr hp hR (fun h2 a b e => ?_)))
    refine nd_iload_n hC dX8_eats_14 rfl ?_
    refine nd_ireturn hC rfl (by first | rfl | exact nd_b_nar _) (by omega) (by omega) dX8_eats_15 ((hk z h2 a b e))
  | false =>
    refine nd_istore_n hC dX8_eats_5 (Nat.le_of_ble_eq_true rfl) ?_
    refine nd_iload_n hC dX8_eats_6 rfl ?_
    refine nd_if_eqB hC (tgt := 14) dX8_eats_7 (by decide) (fun _ => ?_) (fun hq => absurd hq (by decide))
    refine nd_iload_n hC dX8_eats_14 rfl ?_
    refine nd_ireturn hC rfl (by first | rfl | exact nd_b_nar _) (by omega) (by omega) dX8_eats_15 ((hn z))
theorem rd_wrong (hg : nd_OK g) (hd : 3 ≤ d) (hR : rd_R h r wr md T p dp m) (hk : ∀ h2 k, rd_f r h h2 → rd_B h2 k (tx_e T p 2) → K (.inl (some (.ref k))) h2) : nd_M g mX8_wrong d 1 8 [.ref r] h K := by
  obtain ⟨nu, hb, -⟩ := id hR
  have kl := kd_le (tx_k T p)
  unfold tx_e at hk
  refine nd_enter hg (by decide) rfl (Nat.le_of_ble_eq_true rfl) (fun X hC => ?_)
  refine nd_new (ci := nX9) hC [.null, .null, .null, .null, .null, .int 0, .int 0, .int 0] in_X9 rfl tyX9 tyX9_ok q1692 q1693 q170 rfl rfl (by omega) (by omega) dX8_wrong_0 ?_
  have hb1 := (List.getElem?_append_left (l₂ := [(.inr (nX9, [.null, .null, .null, .null, .null, .int 0, .int 0, .int 0]) : nd_C)]) (nd_get_lt hb)).trans hb
  refine nd_dup hC (by rfl) dX8_wrong_3 ?_
  refine nd_aload_n hC dX8_wrong_4 rfl rfl ?_
  refine nd_get (ci := nX8) hC in_X8 rfl hb1 6 (by decide) q1630 (fun _ z => z) rfl dX8_wrong_5 ?_
  refine nd_iconst hC (v := nI 4) (by rfl) dX8_wrong_8 ?_
  first | with_reducible refine nd_icmp_neN hC (tgt := 16) (by omega) (by omega) dX8_wrong_9 (by decide) (fun hq => ?_) (fun hq => ?_) | refine nd_icmp_ne hC (tgt := 16) dX8_wrong_9 (by decide) (fun hq => ?_) (fun hq => ?_)
  · rw [if_neg (fun y => hq (kd_4.2 y))] at hk
    refine nd_iconst hC (v := nI 2) (by rfl) dX8_wrong_16 ?_
    refine nd_aload_n hC dX8_wrong_17 rfl rfl ?_
    refine nd_get (ci := nX8) hC in_X8 rfl hb1 4 (by decide) q1628 (fun _ z => z) rfl dX8_wrong_18 ?_
    refine nd_callI (mm2 := mX9_init) (As := [_, _]) (mc2 := 0) (ms2 := 0) (d2 := d - 1) hC rfl rfl q1703 q170 q1701 q1702 rfl lmX9_init (Nat.le_of_ble_eq_true rfl) (by omega) rfl (by exact Nat.le_of_ble_eq_true rfl) (by omega) (by omega) dX8_wrong_21 rfl ((ni_X9 hg (by omega) ?_))
    refine nd_areturn hC rfl (by first | exact Or.inl ⟨_, rfl⟩ | exact Or.inr ⟨_, rfl⟩) (by rfl) (by omega) (by omega) dX8_wrong_24 ((hk _ _ rd_f.app l_at_last))
  · rw [if_pos (kd_4.1 (by omega))] at hk
    refine nd_iconst hC (v := nI 1) (by rfl) dX8_wrong_12 ?_
    refine nd_goto hC (tgt := 17) dX8_wrong_13 (by decide) ?_
    refine nd_aload_n hC dX8_wrong_17 rfl rfl ?_
    refine nd_get (ci := nX8) hC in_X8 rfl hb1 4 (by decide) q1628 (fun _ z => z) rfl dX8_wrong_18 ?_
    refine nd_callI (mm2 := mX9_init) (As := [_, _]) (mc2 := 0) (ms2 := 0) (d2 := d - 1) hC rfl rfl q1703 q170 q1701 q1702 rfl lmX9_init (Nat.le_of_ble_eq_true rfl) (by omega) rfl (by exact Nat.le_of_ble_eq_true rfl) (by omega) (by omega) dX8_wrong_21 rfl ((ni_X9 hg (by omega) ?_))
    refine nd_areturn hC rfl (by first | exact Or.inl ⟨_, rfl⟩ | exact Or.inr ⟨_, rfl⟩) (by rfl) (by omega) (by omega) dX8_wrong_24 ((hk _ _ rd_f.app l_at_last))
theorem rd_mustC1 (hg : nd_OK g) (hd : 6 ≤ d) (hT : rd_T h T) (hr : r ≠ 92) (hp : p ≤ T.length) (hR : rd_R h r wr md T p dp m) {c : Nat} (hc4 : 4 ≤ c) (hc : c < 128) (hz : tx_k T p = c) (hk : ∀ h2, rd_R h2 r wr md T (tx_h T p) dp m → rd_f r h h2 → h2.length = h.length → K (.inl none) h2) : nd_M g mX8_must_2 d 0 0 [.ref r, .int (nI c)] h K := by
  obtain ⟨nu, hb, -⟩ := id hR
  refine nd_enter hg (by decide) rfl (Nat.le_of_ble_eq_true rfl) (fun X hC => ?_)
  refine nd_aload_n hC dX8_must_2_0 rfl rfl ?_
  refine nd_iload_n hC dX8_must_2_1 rfl ?_
  refine nd_callV (mm2 := mX8_eats_2) (As := [_]) (mc2 := 0) (ms2 := 0) (d2 := d - 1) hC rfl lkX8_98 ⟨rfl, lmX8_eats_2⟩ (hb) rfl (Nat.le_of_ble_eq_true rfl) (by omega) rfl (by exact Nat.le_of_ble_eq_true rfl) (by omega) (by omega) dX8_must_2_2 rfl ((rd_eatsC hg (by omega) hT hr hp hR hc4 hc (fun z h2 a b e => ?_) (fun z => ?_)))
  · refine nd_if_neB hC (tgt := 13) dX8_must_2_5 (by decide) (fun _ => ?_) (fun hq => absurd hq (by decide))
    refine nd_return hC rfl (by omega) (by omega) dX8_must_2_13 ((hk h2 a b e))
  · exact absurd hz z
theorem rd_mustC0 (hg : nd_OK g) (hd : 6 ≤ d) (hT : rd_T h T) (hr : r ≠ 92) (hp : p ≤ T.length) (hR : rd_R h r wr md T p dp m) {c : Nat} (hc4 : 4 ≤ c) (hc : c < 128) (hz : tx_k T p ≠ c) (he : rd_E r h K (tx_e T p 2)) : nd_M g mX8_must_2 d 1 8 [.ref r, .int (nI c)] h K := by
  obtain ⟨nu, hb, -⟩ := id hR
  refine nd_enter hg (by decide) rfl (Nat.le_of_ble_eq_true rfl) (fun X hC => ?_)
  refine nd_aload_n hC dX8_must_2_0 rfl rfl ?_
  refine nd_iload_n hC dX8_must_2_1 rfl ?_
  refine nd_callV (mm2 := mX8_eats_2) (As := [_]) (mc2 := 0) (ms2 := 0) (d2 := d - 1) hC rfl lkX8_98 ⟨rfl, lmX8_eats_2⟩ (hb) rfl (Nat.le_of_ble_eq_true rfl) (by omega) rfl (by exact Nat.le_of_ble_eq_true rfl) (by omega) (by omega) dX8_must_2_2 rfl ((rd_eatsC hg (by omega) hT hr hp hR hc4 hc (fun z h2 a b e => ?_) (fun z => ?_)))
  · exact absurd z hz
  · refine nd_if_neB hC (tgt := 13) dX8_must_2_5 (by decide) (fun hq => absurd hq (by decide)) (fun _ => ?_)
    refine nd_aload_n hC dX8_must_2_8 rfl rfl ?_
    refine nd_callV (mm2 := mX8_wrong) (As := []) (mc2 := 1) (ms2 := 8) (d2 := d - 1) hC rfl lkX8_94 ⟨rfl, lmX8_wrong⟩ (hb) rfl (Nat.le_of_ble_eq_true rfl) (by omega) rfl (by exact Nat.le_of_ble_eq_true rfl) (by omega) (by omega) dX8_must_2_9 rfl ((rd_wrong hg (by omega) hR (fun h2 k f2 b2 => ?_)))
    refine nd_athrow hC b2 rfl dX8_must_2_12 (nd_out hC rfl (by omega) (by omega) (he h2 k f2 b2))
theorem rd_mustS1 (hg : nd_OK g) (hd : 6 ≤ d) (hT : rd_T h T) (hr : r ≠ 92) (hp : p ≤ T.length) (hR : rd_R h r wr md T p dp m) {i : Nat} {rr : String × Nat × String × List Nat} (hrs : nd_str[i]? = some rr) (hz : tx_w T p rr.2.2.2 = true) (hk : ∀ h2, rd_R h2 r wr md T (tx_h T p) dp m → rd_f r h h2 → h2.length = h.length → K (.inl none) h2) : nd_M g mX8_must d 0 0 [.ref r, nd_f i] h K := by
  obtain ⟨nu, hb, -⟩ := id hR
  refine nd_enter hg (by decide) rfl (Nat.le_of_ble_eq_true rfl) (fun X hC => ?_)
  refine nd_aload_n hC dX8_must_0 rfl rfl ?_
  refine nd_aload_n hC dX8_must_1 rfl rfl ?_
  refine nd_callV (mm2 := mX8_eats) (As := [_]) (mc2 := 0) (ms2 := 0) (d2 := d - 1) hC rfl lkX8_91 ⟨rfl, lmX8_eats⟩ (hb) rfl (Nat.le_of_ble_eq_true rfl) (by omega) rfl (by exact Nat.le_of_ble_eq_true rfl) (by omega) (by omega) dX8_must_2 rfl ((rd_eatsS hg (by omega) hT hr hp hR hrs (fun z h2 a b e => ?_) (fun z => ?_)))
  · refine nd_if_neB hC (tgt := 13) dX8_must_5 (by decide) (fun _ => ?_) (fun hq => absurd hq (by decide))
    refine nd_return hC rfl (by omega) (by omega) dX8_must_13 ((hk h2 a b e))
  · exact absurd hz (by rw [z]; decide)
theorem rd_mustS0 (hg : nd_OK g) (hd : 6 ≤ d) (hT : rd_T h T) (hr : r ≠ 92) (hp : p ≤ T.length) (hR : rd_R h r wr md T p dp m) {i : Nat} {rr : String × Nat × String × List Nat} (hrs : nd_str[i]? = some rr) (hz : tx_w T p rr.2.2.2 = false) (he : rd_E r h K (tx_e T p 2)) : nd_M g mX8_must d 1 8 [.ref r, nd_f i] h K := by
  obtain ⟨nu, hb, -⟩ := id hR
  refine nd_enter hg (by decide) rfl (Nat.le_of_ble_eq_true rfl) (fun X hC => ?_)
  refine nd_aload_n hC dX8_must_0 rfl rfl ?_
  refine nd_aload_n hC dX8_must_1 rfl rfl ?_
  refine nd_callV (mm2 := mX8_eats) (As := [_]) (mc2 := 0) (ms2 := 0) (d2 := d - 1) hC rfl lkX8_91 ⟨rfl, lmX8_eats⟩ (hb) rfl (Nat.le_of_ble_eq_true rfl) (by omega) rfl (by exact Nat.le_of_ble_eq_true rfl) (by omega) (by omega) dX8_must_2 rfl ((rd_eatsS hg (by omega) hT hr hp hR hrs (fun z h2 a b e => ?_) (fun z => ?_)))
  · exact absurd z (by rw [hz]; decide)
  · refine nd_if_neB hC (tgt := 13) dX8_must_5 (by decide) (fun hq => absurd hq (by decide)) (fun _ => ?_)
    refine nd_aload_n hC dX8_must_8 rfl rfl ?_
    refine nd_callV (mm2 := mX8_wrong) (As := []) (mc2 := 1) (ms2 := 8) (d2 := d - 1) hC rfl lkX8_94 ⟨rfl, lmX8_wrong⟩ (hb) rfl (Nat.le_of_ble_eq_true rfl) (by omega) rfl (by exact Nat.le_of_ble_eq_true rfl) (by omega) (by omega) dX8_must_9 rfl ((rd_wrong hg (by omega) hR (fun h2 k f2 b2 => ?_)))
    refine nd_athrow hC b2 rfl dX8_must_12 (nd_out hC rfl (by omega) (by omega) (he h2 k f2 b2))
theorem rd_num1 (hg : nd_OK g) (hd : 6 ≤ d) (hT : rd_T h T) (hr : r ≠ 92) (hp : p ≤ T.length) (hR : rd_R h r wr md T p dp m) {hi : Nat} (hi9 : hi ≤ 999) (z : tx_k T p = 2) (z2 : tx_v T p ≤ hi) (hk : ∀ h2, rd_R h2 r wr md T (tx_h T p) dp m → rd_f r h h2 → h2.length = h.length → K (.inl (some (.int (nI (tx_v T p))))) h2) : nd_M g mX8_number d 0 0 [.ref r, .int (nI 0), .int (nI hi)] h K := by
  obtain ⟨nu, hb, hnu⟩ := id hR
  have kl := kd_le (tx_k T p)
  have hnu := hnu z
  subst hnu
  refine nd_enter hg (by decide) rfl (Nat.le_of_ble_eq_true rfl) (fun X hC => ?_)
  refine nd_aload_n hC dX8_number_0 rfl rfl ?_
  refine nd_get (ci := nX8) hC in_X8 rfl hb 6 (by decide) q1630 (fun _ z => z) rfl dX8_number_1 ?_
  refine nd_iconst hC (v := nI 2) (by rfl) dX8_number_4 ?_
  first | with_reducible refine nd_icmp_eqN hC (tgt := 13) (by omega) (by omega) dX8_number_5 (by decide) (fun hq => ?_) (fun hq => ?_) | refine nd_icmp_eq hC (tgt := 13) dX8_number_5 (by decide) (fun hq => ?_) (fun hq => ?_)
  rotate_left
  · exact absurd (kd_2.2 z) hq
  refine nd_aload_n hC dX8_number_13 rfl rfl ?_
  refine nd_get (ci := nX8) hC in_X8 rfl hb 7 (by decide) q1631 (fun _ z => z) rfl dX8_number_14 ?_
  first | with_reducible refine nd_i2lN hC (by omega) dX8_number_17 ?_ | refine nd_i2l hC dX8_number_17 ?_
  refine nd_iload_n hC dX8_number_18 rfl ?_
  first | with_reducible refine nd_i2lN hC (by omega) dX8_number_19 ?_ | refine nd_i2l hC dX8_number_19 ?_
  refine nd_iload_n hC dX8_number_20 rfl ?_
  first | with_reducible refine nd_i2lN hC (by omega) dX8_number_21 ?_ | refine nd_i2l hC dX8_number_21 ?_
  refine nd_callSN (mm2 := mX1_isIn) (As := [_, _, _]) (mc2 := 0) (ms2 := 0) (d2 := d - 1) hC rfl q631 q149 q1728 q630 lmX1_isIn (Nat.le_of_ble_eq_true rfl) (by omega) rfl (by exact Nat.le_of_ble_eq_true rfl) (by omega) (by omega) dX8_number_22 rfl ((ci_isIn hg ?_))
  have e : (decide (lN 0 ≤ lN (tx_v T p)) && decide (lN (tx_v T p) ≤ lN hi)) = true := by
    rw [Bool.and_eq_true, nd_lle, nd_lle, lN_toInt (by omega), lN_toInt (by omega), lN_toInt (by omega)]
    omega
  rw [e]
  refine nd_if_neB hC (tgt := 41) dX8_number_25 (by decide) (fun _ => ?_) (fun hq => absurd hq (by decide))
  refine nd_aload_n hC dX8_number_41 rfl rfl ?_
  refine nd_get (ci := nX8) hC in_X8 rfl hb 7 (by decide) q1631 (fun _ z => z) rfl dX8_number_42 ?_
  refine nd_istore_n hC dX8_number_45 (Nat.le_of_ble_eq_true rfl) ?_
  refine nd_aload_n hC dX8_number_46 rfl rfl ?_
  refine nd_callV (mm2 := mX8_next) (As := []) (mc2 := 0) (ms2 := 0) (d2 := d - 1) hC rfl lkX8_48 ⟨rfl, lmX8_next⟩ (hb) rfl (Nat.le_of_ble_eq_true rfl) (by omega) rfl (by exact Nat.le_of_ble_eq_true rfl) (by omega) (by omega) dX8_number_47 rfl ((rd_on hg (by omega) hT hr hp hR (fun h2 a b e => ?_)))
  refine nd_iload_n hC dX8_number_50 rfl ?_
  refine nd_ireturn hC rfl (by first | rfl | exact nd_b_nar _) (by omega) (by omega) dX8_number_51 ((hk h2 a b e))
theorem rd_num0 (hg : nd_OK g) (hd : 6 ≤ d) (hT : rd_T h T) (hr : r ≠ 92) (hp : p ≤ T.length) (hR : rd_R h r wr md T p dp m) {hi : Nat} {e : Nat × Nat} (hi9 : hi ≤ 999) (hz : tx_num T hi p = .inr e) (he : rd_E r h K e) : nd_M g mX8_number d 1 8 [.ref r, .int (nI 0), .int (nI hi)] h K := by
  obtain ⟨nu, hb, hnu⟩ := id hR
  have kl := kd_le (tx_k T p)
  unfold tx_num at hz
  refine nd_enter hg (by decide) rfl (Nat.le_of_ble_eq_true rfl) (fun X hC => ?_)
  refine nd_aload_n hC dX8_number_0 rfl rfl ?_
  refine nd_get (ci := nX8) hC in_X8 rfl hb 6 (by decide) q1630 (fun _ z => z) rfl dX8_number_1 ?_
  refine nd_iconst hC (v := nI 2) (by rfl) dX8_number_4 ?_
  first | with_reducible refine nd_icmp_eqN hC (tgt := 13) (by omega) (by omega) dX8_number_5 (by decide) (fun hq => ?_) (fun hq => ?_) | refine nd_icmp_eq hC (tgt := 13) dX8_number_5 (by decide) (fun hq => ?_) (fun hq => ?_)
  rotate_left
  · have z : ¬ tx_k T p = 2 := fun y => hq (kd_2.2 y)
    rw [if_neg z] at hz
    cases hz
    refine nd_aload_n hC dX8_number_8 rfl rfl ?_
    refine nd_callV (mm2 := mX8_wrong) (As := []) (mc2 := 1) (ms2 := 8) (d2 := d - 1) hC rfl lkX8_94 ⟨rfl, lmX8_wrong⟩ (hb) rfl (Nat.le_of_ble_eq_true rfl) (by omega) rfl (by exact Nat.le_of_ble_eq_true rfl) (by omega) (by omega) dX8_number_9 rfl ((rd_wrong hg (by omega) hR (fun h2 k f2 b2 => ?_)))
    refine nd_athrow hC b2 rfl dX8_number_12 (nd_out hC rfl (by omega) (by omega) (he h2 k f2 b2))
  have z : tx_k T p = 2 := kd_2.1 (by omega)
  have hv := (tx_v_lt T p z).1
  have hnu := hnu z
  subst hnu
  rw [if_pos z] at hz
  by_cases z2 : tx_v T p ≤ hi
  · rw [if_pos z2] at hz; cases hz
  rw [if_neg z2] at hz
  cases hz
  refine nd_aload_n hC dX8_number_13 rfl rfl ?_
  refine nd_get (ci := nX8) hC in_X8 rfl hb 7 (by decide) q1631 (fun _ z => z) rfl dX8_number_14 ?_
  first | with_reducible refine nd_i2lN hC (by omega) dX8_number_17 ?_ | refine nd_i2l hC dX8_number_17 ?_
  refine nd_iload_n hC dX8_number_18 rfl ?_
  first | with_reducible refine nd_i2lN hC (by omega) dX8_number_19 ?_ | refine nd_i2l hC dX8_number_19 ?_
  refine nd_iload_n hC dX8_number_20 rfl ?_
  first | with_reducible refine nd_i2lN hC (by omega) dX8_number_21 ?_ | refine nd_i2l hC dX8_number_21 ?_
  refine nd_callSN (mm2 := mX1_isIn) (As := [_, _, _]) (mc2 := 0) (ms2 := 0) (d2 := d - 1) hC rfl q631 q149 q1728 q630 lmX1_isIn (Nat.le_of_ble_eq_true rfl) (by omega) rfl (by exact Nat.le_of_ble_eq_true rfl) (by omega) (by omega) dX8_number_22 rfl ((ci_isIn hg ?_))
  have e : (decide (lN 0 ≤ lN (tx_v T p)) && decide (lN (tx_v T p) ≤ lN hi)) = false := by
    rw [Bool.eq_false_iff]
    intro y
    rw [Bool.and_eq_true, nd_lle, nd_lle, lN_toInt (by omega), lN_toInt (by omega), lN_toInt (by omega)] at y
    omega
  rw [e]
  refine nd_if_neB hC (tgt := 41) dX8_number_25 (by decide) (fun hq => absurd hq (by decide)) (fun _ => ?_)
  refine nd_new (ci := nX9) hC [.null, .null, .null, .null, .null, .int 0, .int 0, .int 0] in_X9 rfl tyX9 tyX9_ok q1692 q1693 q170 rfl rfl (by omega) (by omega) dX8_number_28 ?_
  have hb1 := (List.getElem?_append_left (l₂ := [(.inr (nX9, [.null, .null, .null, .null, .null, .int 0, .int 0, .int 0]) : nd_C)]) (nd_get_lt hb)).trans hb
  refine nd_dup hC (by rfl) dX8_number_31 ?_
  refine nd_iconst hC (v := nI 3) (by rfl) dX8_number_32 ?_
  refine nd_aload_n hC dX8_number_33 rfl rfl ?_
  refine nd_get (ci := nX8) hC in_X8 rfl hb1 4 (by decide) q1628 (fun _ z => z) rfl dX8_number_34 ?_
  refine nd_callI (mm2 := mX9_init) (As := [_, _]) (mc2 := 0) (ms2 := 0) (d2 := d - 1) hC rfl rfl q1703 q170 q1701 q1702 rfl lmX9_init (Nat.le_of_ble_eq_true rfl) (by omega) rfl (by exact Nat.le_of_ble_eq_true rfl) (by omega) (by omega) dX8_number_37 rfl ((ni_X9 hg (by omega) ?_))
  refine nd_athrow hC l_at_last rfl dX8_number_40 (nd_out hC rfl (by omega) (by omega) (he _ _ rd_f.app l_at_last))
theorem rd_full1 (hg : nd_OK g) (hd : 5 ≤ d) (hT : rd_T h T) (hr : r ≠ 92) (hp : p ≤ T.length) (hR : rd_R h r wr md T p dp m) (hk : ∀ h2, rd_R h2 r wr md T (tx_h T p) dp m → rd_f r h h2 → h2.length = h.length → K (.inl none) h2) : nd_M g mX8_full d 0 0 [.ref r, .int (nd_b false)] h K := by
  obtain ⟨nu, hb, -⟩ := id hR
  refine nd_enter hg (by decide) rfl (Nat.le_of_ble_eq_true rfl) (fun X hC => ?_)
  refine nd_iload_n hC dX8_full_0 rfl ?_
  refine nd_if_eqB hC (tgt := 17) dX8_full_1 (by decide) (fun _ => ?_) (fun hq => absurd hq (by decide))
  refine nd_aload_n hC dX8_full_17 rfl rfl ?_
  refine nd_callV (mm2 := mX8_next) (As := []) (mc2 := 0) (ms2 := 0) (d2 := d - 1) hC rfl lkX8_48 ⟨rfl, lmX8_next⟩ (hb) rfl (Nat.le_of_ble_eq_true rfl) (by omega) rfl (by exact Nat.le_of_ble_eq_true rfl) (by omega) (by omega) dX8_full_18 rfl ((rd_on hg (by omega) hT hr hp hR (fun h2 a b e => ?_)))
  refine nd_return hC rfl (by omega) (by omega) dX8_full_21 ((hk h2 a b e))
theorem rd_full0 (hg : nd_OK g) (hd : 5 ≤ d) (hR : rd_R h r wr md T p dp m) (he : rd_E r h K (4, tx_b T p)) : nd_M g mX8_full d 1 8 [.ref r, .int (nd_b true)] h K := by
  obtain ⟨nu, hb, -⟩ := id hR
  refine nd_enter hg (by decide) rfl (Nat.le_of_ble_eq_true rfl) (fun X hC => ?_)
  refine nd_iload_n hC dX8_full_0 rfl ?_
  refine nd_if_eqB hC (tgt := 17) dX8_full_1 (by decide) (fun hq => absurd hq (by decide)) (fun _ => ?_)
  refine nd_new (ci := nX9) hC [.null, .null, .null, .null, .null, .int 0, .int 0, .int 0] in_X9 rfl tyX9 tyX9_ok q1692 q1693 q170 rfl rfl (by omega) (by omega) dX8_full_4 ?_
  have hb1 := (List.getElem?_append_left (l₂ := [(.inr (nX9, [.null, .null, .null, .null, .null, .int 0, .int 0, .int 0]) : nd_C)]) (nd_get_lt hb)).trans hb
  refine nd_dup hC (by rfl) dX8_full_7 ?_
  refine nd_iconst hC (v := nI 4) (by rfl) dX8_full_8 ?_
  refine nd_aload_n hC dX8_full_9 rfl rfl ?_
  refine nd_get (ci := nX8) hC in_X8 rfl hb1 4 (by decide) q1628 (fun _ z => z) rfl dX8_full_10 ?_
  refine nd_callI (mm2 := mX9_init) (As := [_, _]) (mc2 := 0) (ms2 := 0) (d2 := d - 1) hC rfl rfl q1703 q170 q1701 q1702 rfl lmX9_init (Nat.le_of_ble_eq_true rfl) (by omega) rfl (by exact Nat.le_of_ble_eq_true rfl) (by omega) (by omega) dX8_full_13 rfl ((ni_X9 hg (by omega) ?_))
  refine nd_athrow hC l_at_last rfl dX8_full_16 (nd_out hC rfl (by omega) (by omega) (he _ _ rd_f.app l_at_last))
theorem rd_deeper1 (hg : nd_OK g) (hd : 6 ≤ d) (hT : rd_T h T) (hr : r ≠ 92) (hp : p ≤ T.length) (hR : rd_R h r wr md T p dp m) (hdp : dp < 6) (hk : ∀ h2, rd_R h2 r wr md T (tx_h T p) (dp + 1) m → rd_f r h h2 → h2.length = h.length → K (.inl none) h2) : nd_M g mX8_deeper d 0 0 [.ref r] h K := by
  obtain ⟨nu, hb, -⟩ := id hR
  refine nd_enter hg (by decide) rfl (Nat.le_of_ble_eq_true rfl) (fun X hC => ?_)
  refine nd_aload_n hC dX8_deeper_0 rfl rfl ?_
  refine nd_aload_n hC dX8_deeper_1 rfl rfl ?_
  refine nd_get (ci := nX8) hC in_X8 rfl hb 8 (by decide) q1632 (fun _ z => z) rfl dX8_deeper_2 ?_
  refine nd_bipush hC (v := nI 6) (by rfl) dX8_deeper_5 ?_
  first | with_reducible refine nd_icmp_neN hC (tgt := 14) (by omega) (by omega) dX8_deeper_7 (by decide) (fun hq => ?_) (fun hq => ?_) | refine nd_icmp_ne hC (tgt := 14) dX8_deeper_7 (by decide) (fun hq => ?_) (fun hq => ?_)
  · refine nd_iconst hC (v := nI 0) (by rfl) dX8_deeper_14 ?_
    refine nd_v_eq (y := .int (nd_b false)) (by rfl) ?_
    refine nd_callV (mm2 := mX8_full) (As := [_]) (mc2 := 0) (ms2 := 0) (d2 := d - 1) hC rfl lkX8_112 ⟨rfl, lmX8_full⟩ (hb) rfl (Nat.le_of_ble_eq_true rfl) (by omega) rfl (by exact Nat.le_of_ble_eq_true rfl) (by omega) (by omega) dX8_deeper_15 rfl ((rd_full1 hg (by omega) hT hr hp hR (fun h2 a b e => ?_)))
    obtain ⟨nu2, hb2, hn2⟩ := id a
    refine nd_aload_n hC dX8_deeper_18 rfl rfl ?_
    refine nd_dup hC (by rfl) dX8_deeper_19 ?_
    refine nd_get (ci := nX8) hC in_X8 rfl hb2 8 (by decide) q1632 (fun _ z => z) rfl dX8_deeper_20 ?_
    refine nd_iconst hC (v := nI 1) (by rfl) dX8_deeper_23 ?_
    first | with_reducible refine nd_iaddN hC dX8_deeper_24 ?_ | refine nd_iadd hC dX8_deeper_24 ?_
    refine nd_put (ci := nX8) hC in_X8 rfl hb2 8 (by decide) tyX8 tyX8_ok (by decide +kernel) q1632 (fun _ z => z) rfl rfl rfl (by show 8 < 10; decide) dX8_deeper_25 ?_
    refine nd_return hC rfl (by omega) (by omega) dX8_deeper_28 ((hk _ ⟨nu2, List.getElem?_set_self (nd_get_lt hb2), hn2⟩ (b.trans rd_f.set) (by rw [List.length_set]; exact e)))
  · omega
theorem rd_deeper0 (hg : nd_OK g) (hd : 6 ≤ d) (hR : rd_R h r wr md T p 6 m) (he : rd_E r h K (4, tx_b T p)) : nd_M g mX8_deeper d 1 8 [.ref r] h K := by
  obtain ⟨nu, hb, -⟩ := id hR
  refine nd_enter hg (by decide) rfl (Nat.le_of_ble_eq_true rfl) (fun X hC => ?_)
  refine nd_aload_n hC dX8_deeper_0 rfl rfl ?_
  refine nd_aload_n hC dX8_deeper_1 rfl rfl ?_
  refine nd_get (ci := nX8) hC in_X8 rfl hb 8 (by decide) q1632 (fun _ z => z) rfl dX8_deeper_2 ?_
  refine nd_bipush hC (v := nI 6) (by rfl) dX8_deeper_5 ?_
  first | with_reducible refine nd_icmp_neN hC (tgt := 14) (by omega) (by omega) dX8_deeper_7 (by decide) (fun hq => ?_) (fun hq => ?_) | refine nd_icmp_ne hC (tgt := 14) dX8_deeper_7 (by decide) (fun hq => ?_) (fun hq => ?_)
  · omega
  · refine nd_iconst hC (v := nI 1) (by rfl) dX8_deeper_10 ?_
    refine nd_goto hC (tgt := 15) dX8_deeper_11 (by decide) ?_
    refine nd_v_eq (y := .int (nd_b true)) (by rfl) ?_
    refine nd_callV (mm2 := mX8_full) (As := [_]) (mc2 := 1) (ms2 := 8) (d2 := d - 1) hC rfl lkX8_112 ⟨rfl, lmX8_full⟩ (hb) rfl (Nat.le_of_ble_eq_true rfl) (by omega) rfl (by exact Nat.le_of_ble_eq_true rfl) (by omega) (by omega) dX8_deeper_15 rfl ((rd_full0 hg (by omega) hR ?_))
    intro h2 k f2 b2
    exact nd_out hC rfl (by omega) (by omega) (he h2 k f2 b2)
end RD96

