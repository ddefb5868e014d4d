set_option maxRecDepth 100000
/-! ===== boxes of small ints; lists' get ===== -/
section AL1
variable {g : nd_G} {mm : nd_Mt} {d mc ms : Nat} {K : nd_K} {X : nd_X} {pc : Nat} {lv : List (Option Value)} {st : List Value} {h : nd_H} {cs ss : Nat}
theorem nd_aldC (hC : nd_Cx g mm X) {j : Nat} (hj : j < 256) (hd : decode mm.2.1 pc = .ok (.aaload, 1)) (k : nd_W g mm d mc ms K X (pc + 1) lv (nd_f (1000 + j) :: st) h cs ss) : nd_W g mm d mc ms K X pc lv (.int (nI j) :: .float 204 :: st) h cs ss := by
  intro H ls locs hl hR hS
  have k1 := k H ls locs hl hR hS
  obtain ⟨e2, fT⟩ := hC.fo.2.2.2.1
  have ev : nd_v g (.float 204) = .ref (nd_sa g 204) := e2
  rw [List.map_cons, nd_vf (by omega)] at k1
  rw [List.map_cons, List.map_cons, ev]
  have hij : (nI j).toInt = (j : Int) := nI_toInt (by omega)
  exact vb_tq hC.1 hC.2.1 ((va_T.moved hC.al fT).kept (nd_frn hC hR hS)) hS (nd_inn hij hj) (by rw [nd_toNat hij]) hd k1
theorem nd_getI (hC : nd_Cx g mm X) {j index : Nat} (hj : j < 256) (hlink : Cond.fieldLink mm.1.cls index "java/lang/Integer" "value" "I" ∈ lw_all) (hd : decode mm.2.1 pc = .ok (.getfield index, 3)) (k : nd_W g mm d mc ms K X (pc + 3) lv (.int (nI j - nI 128) :: st) h cs ss) : nd_W g mm d mc ms K X pc lv (nd_f (1000 + j) :: st) h cs ss := by
  intro H ls locs hl hR hS
  have k1 := k H ls locs hl hR hS
  obtain ⟨e1, fO, fF⟩ := hC.fo.2.2.2.2 j hj
  rw [List.map_cons, nd_vf (by omega), e1]
  exact vk_getf hC.1 hC.2.1 ((va_OF.moved hC.al fF).kept (nd_frn hC hR hS)) hS hC.own (hC.hts _ hlink) (fun _ z => z) hd k1
theorem nd_castI (hC : nd_Cx g mm X) {j index : Nat} (hj : j < 256) (hlink : Cond.classLink mm.1.cls index "java/lang/Integer" ∈ lw_all) (hd : decode mm.2.1 pc = .ok (.checkcast index, 3)) (k : nd_W g mm d mc ms K X (pc + 3) lv (nd_f (1000 + j) :: st) h cs ss) : nd_W g mm d mc ms K X pc lv (nd_f (1000 + j) :: st) h cs ss := by
  intro H ls locs hl hR hS
  have k1 := k H ls locs hl hR hS
  obtain ⟨e1, fO, fF⟩ := hC.fo.2.2.2.2 j hj
  rw [List.map_cons, nd_vf (by omega), e1] at k1 ⊢
  obtain ⟨cell, c1, c2, c3, -⟩ := ((va_O.moved hC.al fO).kept (nd_frn hC hR hS)).kept hS.2.1
  obtain ⟨cS, kS, hcS, hkS, hord, -⟩ := Cond.instantiable_spec (hC.hts _ q1737)
  exact va_castS hC.1 hC.2.1 hC.own (hC.hts _ hlink) ⟨hcS, kS, hkS, hord⟩ ⟨cell, c1, c2, c3⟩ hd k1
theorem nd_castS (hC : nd_Cx g mm X) {b ci index : Nat} {fs : List Value} {C : String} {T : u_T} {N : Nat} (hlink : Cond.classLink mm.1.cls index C ∈ lw_all) (hb : h[b]? = some (.inr (ci, fs))) (hc : nd_cl[ci]? = some (C, T, N)) (hd : decode mm.2.1 pc = .ok (.checkcast index, 3)) (k : nd_W g mm d mc ms K X (pc + 3) lv (.ref b :: st) h cs ss) : nd_W g mm d mc ms K X pc lv (.ref b :: st) h cs ss :=
  fun H ls locs hl hR hS => va_castS hC.1 hC.2.1 hC.own (hC.hts _ hlink) (hC.amb.1.1 ci _ hc).2 (nd_recv hC hR hb hc) hd (k H ls locs hl hR hS)
/-- a call of a small Integer's method -/
theorem nd_callVI (hC : nd_Cx g mm X) {mm2 : nd_Mt} {index n d2 j : Nat} {As rest : List Value} (hj : j < 256) (hh : mm2.2.2.2.2 = none) (hG : GoodIn lw_all (wsV mm.1.cls index "java/lang/Integer" mm2.1 (nd_ws mm2))) (hy : mm2.1.cls = "java/lang/Integer" ∧ mm2.1.cls ≠ "java/lang/invoke/MethodHandle" ∧ mm2.1.cls ≠ "java/lang/invoke/VarHandle" ∧ (parseMethodDescriptor mm2.1.desc).map (fun d => d.parameters.length) = some n) (hL : mm2.2.2.1 ≤ 45) (hdep : d2 + 1 ≤ d) (hn : As.length = n) (hrest : (rest.map nd_cn).sum ≤ 8) (hcs : cs ≤ mc) (hss : ss ≤ ms) (hd : decode mm.2.1 pc = .ok (.invokevirtual index, 3)) (hst : st = As.reverse ++ nd_f (1000 + j) :: rest) (hM : nd_M g mm2 d2 0 0 (nd_f (1000 + j) :: As) h (nd_Kc g mm d mc ms K X pc 3 lv rest cs ss)) : nd_W g mm d mc ms K X pc lv st h cs ss := by
  obtain ⟨y, cc2, L2, r2, h2⟩ := mm2
  dsimp only at hh
  subst hh
  intro H ls locs hl hR hS
  subst hst
  obtain ⟨e1, fO, fF⟩ := hC.fo.2.2.2.2 j hj
  have ev : nd_v g (nd_f (1000 + j)) = .ref (nd_sa g (1000 + j)) := (nd_vf (by omega)).trans e1
  have eM : (nd_f (1000 + j) :: As).map (nd_v g) = .ref (nd_sa g (1000 + j)) :: As.map (nd_v g) := by rw [List.map_cons, ev]
  have eS : (As.reverse ++ nd_f (1000 + j) :: rest).map (nd_v g) = (As.map (nd_v g)).reverse ++ .ref (nd_sa g (1000 + j)) :: rest.map (nd_v g) := by rw [List.map_append, List.map_cons, List.map_reverse, ev]
  unfold nd_M at hM
  rw [eM] at hM
  rw [eS]
  have hpre : PreV X.2.2.1 H "java/lang/Integer" (nd_sa g (1000 + j)) (va_Pc (.ref (nd_sa g (1000 + j)) :: As.map (nd_v g)) (fun U => nd_R g h U.heap ∧ nd_Amb g U)) (As.map (nd_v g)) := by
    refine ⟨nd_blind g h _, ?_, fun U hU hW => ⟨rfl, by rw [hU]; exact hR, hC.amb.warm hW⟩⟩
    obtain ⟨cell, c1, c2, c3, -⟩ := ((va_O.moved hC.al fO).kept (nd_frn hC hR hS)).kept hS.2.1
    exact ⟨cell, c1, c2, c3⟩
  refine nd_go3 (a9 := (.ref (nd_sa g (1000 + j)) :: As.map (nd_v g)).toArray) (mc' := 0) (ms' := 0) (st := rest) hl hS ?_
  exact vx_runV (As := As.map (nd_v g)) (nd_fix hC) hM (cwV n hC.hts hG rfl rfl rfl hy (nd_roomR hdep hL)) hpre rfl (by rw [List.length_map]; exact hn) (by rw [hl.1]) rfl (lv_room (by rw [nd_cn_sum hC.ok]; exact hrest)) hd ⟨hcs, hss⟩
end AL1
theorem i_box {v : Nat} : (nI (128 + v) - nI 128 : Int32) = nI v := by
  rw [pk_sub (by omega), Nat.add_sub_cancel_left]
section AL2
variable {g : nd_G} {d : Nat} {K : nd_K} {h : nd_H}
theorem cb_int (hg : nd_OK g) {v : Nat} (hv : v < 100) (hk : K (.inl (some (.int (nI v)))) h) : nd_M g mJ14_intValue d 0 0 [nd_f (1000 + (128 + v))] h K := by
  refine nd_enter hg (by decide) rfl (Nat.le_of_ble_eq_true rfl) (fun X hC => ?_)
  refine nd_aload_n hC dJ14_intValue_0 rfl rfl ?_
  refine nd_getI hC (by omega) q1745 dJ14_intValue_1 ?_
  rw [i_box]
  refine nd_ireturn hC rfl (by first | rfl | exact nd_b_nar _) (by omega) (by omega) dJ14_intValue_4 (hk)
theorem cb_of (hg : nd_OK g) {v : Nat} (hv : v < 100) (hk : K (.inl (some (nd_f (1000 + (128 + v))))) h) : nd_M g mJ14_valueOf d 0 0 [.int (nI v)] h K := by
  have hn : ∀ z : Int32, z = nI v → z.toInt = (v : Int) := fun z hz => by rw [hz]; exact nI_toInt (by omega)
  refine nd_enter hg (by decide) rfl (Nat.le_of_ble_eq_true rfl) (fun X hC => ?_)
  refine nd_iload_n hC dJ14_valueOf_0 rfl ?_
  refine nd_bipush hC (v := -128) (by rfl) dJ14_valueOf_1 ?_
  first | with_reducible refine nd_icmp_ltN hC (tgt := 23) (by omega) (by omega) dJ14_valueOf_3 (by decide) (fun hc => ?_) (fun hc => ?_) | refine nd_icmp_lt hC (tgt := 23) dJ14_valueOf_3 (by decide) (fun hc => ?_) (fun hc => ?_)
  · exact absurd hc (by rw [Int32.lt_iff_toInt_lt, hn _ rfl]; show ¬ (v : Int) < -128; omega)
  · refine nd_iload_n hC dJ14_valueOf_6 rfl ?_
    refine nd_gets hC (r := ("java/lang/Integer$IntegerCache", "high", "I", .int 127)) (List.mem_of_getElem? (i := 6) rfl) q1732 dJ14_valueOf_7 ?_
    first | with_reducible refine nd_icmp_gtN hC (tgt := 23) (by omega) (by omega) dJ14_valueOf_10 (by decide) (fun hc2 => ?_) (fun hc2 => ?_) | refine nd_icmp_gt hC (tgt := 23) dJ14_valueOf_10 (by decide) (fun hc2 => ?_) (fun hc2 => ?_)
    · exact absurd hc2 (by rw [Int32.lt_iff_toInt_lt, hn _ rfl]; show ¬ (127 : Int) < v; omega)
    · refine nd_gets hC (r := ("java/lang/Integer$IntegerCache", "cache", "[Ljava/lang/Integer;", .float 204)) (List.mem_of_getElem? (i := 5) rfl) q1734 dJ14_valueOf_13 ?_
      refine nd_iload_n hC dJ14_valueOf_16 rfl ?_
      refine nd_sipush hC (v := nI 128) (by rfl) dJ14_valueOf_17 ?_
      first | with_reducible refine nd_iaddN hC dJ14_valueOf_20 ?_ | refine nd_iadd hC dJ14_valueOf_20 ?_
      refine nd_v_eq (y := .int (nI (128 + v))) (by rw [Nat.add_comm]) ?_
      refine nd_aldC hC (by omega) dJ14_valueOf_21 ?_
      refine nd_areturn hC rfl (by first | exact Or.inl ⟨_, rfl⟩ | exact Or.inr ⟨_, rfl⟩) (by rfl) (by omega) (by omega) dJ14_valueOf_22 (hk)
theorem sq_checkIndexN (hg : nd_OK g) {a b : Nat} (hab : a < b) (hb : b < 2147483648) (hk : K (.inl (some (.int (nI a)))) h) : nd_M g mJ11_checkIndex d 0 0 [.int (nI a), .int (nI b), .null] h K := by
  refine nd_enter hg (by decide) rfl (Nat.le_of_ble_eq_true rfl) (fun X hC => ?_)
  refine nd_iload_n hC dJ11_checkIndex_0 rfl ?_
  refine nd_if_lt hC (tgt := 9) dJ11_checkIndex_1 (by decide) (fun hc => ?_) (fun hc => ?_)
  · exact absurd hc (by rw [Int32.lt_iff_toInt_lt, nI_toInt (by omega)]; show ¬ (a : Int) < 0; omega)
  · refine nd_iload_n hC dJ11_checkIndex_4 rfl ?_
    refine nd_iload_n hC dJ11_checkIndex_5 rfl ?_
    first | with_reducible refine nd_icmp_ltN hC (tgt := 16) (by omega) (by omega) dJ11_checkIndex_6 (by decide) (fun hq => ?_) (fun hq => ?_) | refine nd_icmp_lt hC (tgt := 16) dJ11_checkIndex_6 (by decide) (fun hq => ?_) (fun hq => ?_)
    · refine nd_iload_n hC dJ11_checkIndex_16 rfl ?_
      refine nd_ireturn hC rfl (by first | rfl | exact nd_b_nar _) (by omega) (by omega) dJ11_checkIndex_17 (hk)
    · omega
theorem sq_checkIndexO (hg : nd_OK g) (hd : 1 ≤ d) {a b : Nat} (hab : a < b) (hb : b < 2147483648) (hk : K (.inl (some (.int (nI a)))) h) : nd_M g mJ17_checkIndex d 0 0 [.int (nI a), .int (nI b)] h K := by
  refine nd_enter hg (by decide) rfl (Nat.le_of_ble_eq_true rfl) (fun X hC => ?_)
  refine nd_iload_n hC dJ17_checkIndex_0 rfl ?_
  refine nd_iload_n hC dJ17_checkIndex_1 rfl ?_
  refine nd_null hC dJ17_checkIndex_2 ?_
  refine nd_callS (mm2 := mJ11_checkIndex) (As := [_, _, _]) (mc2 := 0) (ms2 := 0) (d2 := d - 1) hC rfl lkJ17_105 lmJ11_checkIndex (Nat.le_of_ble_eq_true rfl) (by omega) rfl (by exact Nat.le_of_ble_eq_true rfl) (by omega) (by omega) dJ17_checkIndex_3 rfl ((sq_checkIndexN hg hab hb ?_))
  refine nd_ireturn hC rfl (by first | rfl | exact nd_b_nar _) (by omega) (by omega) dJ17_checkIndex_6 (hk)
/-- a list at a: its row at ed (of 10), sz there -/
def ca_L (h : nd_H) (a ed sz : Nat) (gf : Nat → Value) : Prop := ∃ m, h[a]? = some (.inr (nJ2, [.int m, .ref ed, .int (nI sz)])) ∧ h[ed]? = some (.inl (10, 10, .inr (.inr gf)))
theorem ca_elt (hg : nd_OK g) {a ed i : Nat} {m sz : Int32} {gf : Nat → Value} (hb : h[a]? = some (.inr (nJ2, [.int m, .ref ed, .int sz]))) (he : h[ed]? = some (.inl (10, 10, .inr (.inr gf)))) (hi : i < 10) (hr : nd_rf (gf i) = true) (hk : K (.inl (some (gf i))) h) : nd_M g mJ2_elementData d 0 0 [.ref a, .int (nI i)] h K := by
  refine nd_enter hg (by decide) rfl (Nat.le_of_ble_eq_true rfl) (fun X hC => ?_)
  refine nd_aload_n hC dJ2_elementData_0 rfl rfl ?_
  refine nd_get (ci := nJ2) hC in_J2 rfl hb 1 (by decide) q253 (fun _ z => z) rfl dJ2_elementData_1 ?_
  refine nd_iload_n hC dJ2_elementData_4 rfl ?_
  refine nd_aaloadN hC rfl rfl he (by omega) (by omega) dJ2_elementData_5 ?_
  exact nd_areturn hC rfl (Or.inl ⟨_, rfl⟩) hr (by omega) (by omega) dJ2_elementData_6 hk
theorem ca_get (hg : nd_OK g) (hd : 2 ≤ d) {a ed sz i : Nat} {gf : Nat → Value} (hL : ca_L h a ed sz gf) (hi : i < sz) (h10 : sz ≤ 10) (hr : nd_rf (gf i) = true) (hk : K (.inl (some (gf i))) h) : nd_M g mJ2_get d 0 0 [.ref a, .int (nI i)] h K := by
  obtain ⟨m, hb, he⟩ := hL
  refine nd_enter hg (by decide) rfl (Nat.le_of_ble_eq_true rfl) (fun X hC => ?_)
  refine nd_iload_n hC dJ2_get_0 rfl ?_
  refine nd_aload_n hC dJ2_get_1 rfl rfl ?_
  refine nd_get (ci := nJ2) hC in_J2 rfl hb 2 (by decide) q256 (fun _ z => z) rfl dJ2_get_2 ?_
  refine nd_callS (mm2 := mJ17_checkIndex) (As := [_, _]) (mc2 := 0) (ms2 := 0) (d2 := d - 1) hC rfl lkJ2_118 lmJ17_checkIndex (Nat.le_of_ble_eq_true rfl) (by omega) rfl (by exact Nat.le_of_ble_eq_true rfl) (by omega) (by omega) dJ2_get_5 rfl ((sq_checkIndexO hg (by omega) hi (by omega) ?_))
  refine nd_pop hC (by rfl) dJ2_get_8 ?_
  refine nd_aload_n hC dJ2_get_9 rfl rfl ?_
  refine nd_iload_n hC dJ2_get_10 rfl ?_
  refine nd_callV (mm2 := mJ2_elementData) (As := [_]) (mc2 := 0) (ms2 := 0) (d2 := d - 1) hC rfl lkJ2_123 ⟨rfl, lmJ2_elementData⟩ (hb) rfl (Nat.le_of_ble_eq_true rfl) (by omega) rfl (by exact Nat.le_of_ble_eq_true rfl) (by omega) (by omega) dJ2_get_11 rfl ((ca_elt hg hb he (by omega) hr ?_))
  exact nd_areturn hC rfl (Or.inl ⟨_, rfl⟩) hr (by omega) (by omega) dJ2_get_14 hk
end AL2

