set_option maxRecDepth 100000
/-! ===== constructors: ArrayList, Napkin, State ===== -/
theorem l_set_last {h : nd_H} {A B : nd_C} : (h ++ [A]).set h.length B = h ++ [B] := by
  rw [List.set_append_right _ _ (Nat.le_refl _), Nat.sub_self]
  exact Eq.refl _
/-- grown by k cells; of the old ones only b has changed -/
def gw (b k : Nat) (h h2 : nd_H) : Prop := h2.length = h.length + k ∧ ∀ c, c ≠ b → c < h.length → h2[c]? = h[c]?
theorem gw.put {b k : Nat} {h h2 : nd_H} {A : nd_C} (a : gw b k h h2) : gw b k h (h2.set b A) := ⟨by rw [List.length_set]; exact a.1, fun c z l => by rw [List.getElem?_set_ne (Ne.symm z)]; exact a.2 c z l⟩
theorem gw.app {b k : Nat} {h h2 : nd_H} {A : nd_C} (a : gw b k h h2) : gw b (k + 1) h (h2 ++ [A]) := ⟨by rw [List.length_append, a.1]; exact Nat.add_assoc _ _ _, fun c z l => by rw [List.getElem?_append_left (by rw [a.1]; omega)]; exact a.2 c z l⟩
section IN64
variable {g : nd_G} {mm : nd_Mt} {d mc ms : Nat} {K : nd_K} {X : nd_X} {pc : Nat} {lv : List (Option Value)} {st : List Value} {h : nd_H} {cs ss b : Nat}
theorem ni_J0 (hg : nd_OK g) (hk : K (.inl none) h) : nd_M g mJ0_init d 0 0 [.ref b] h K := by
  refine nd_enter hg (by decide) rfl (Nat.le_of_ble_eq_true rfl) (fun X hC => ?_)
  refine nd_aload_n hC dJ0_init_0 rfl rfl ?_
  refine nd_objInit hC q250 q225 q226 (by exact Nat.le_of_ble_eq_true rfl) dJ0_init_1 ?_
  refine nd_return hC rfl (by omega) (by omega) dJ0_init_4 (hk)
theorem ni_J1 (hg : nd_OK g) (hd : 1 ≤ d) {x0 x1 x2 : Value} (hb : h[b]? = some (.inr (nJ2, [x0, x1, x2]))) (hk : K (.inl none) (h.set b (.inr (nJ2, [.int (nI 0), x1, x2])))) : nd_M g mJ1_init d 0 0 [.ref b] h K := by
  refine nd_enter hg (by decide) rfl (Nat.le_of_ble_eq_true rfl) (fun X hC => ?_)
  refine nd_aload_n hC dJ1_init_0 rfl rfl ?_
  refine nd_callI (mm2 := mJ0_init) (As := []) (mc2 := 0) (ms2 := 0) (d2 := d - 1) hC rfl rfl q249 q152 q247 q248 rfl lmJ0_init (Nat.le_of_ble_eq_true rfl) (by omega) rfl (by exact Nat.le_of_ble_eq_true rfl) (by omega) (by omega) dJ1_init_1 rfl ((ni_J0 hg ?_))
  refine nd_aload_n hC dJ1_init_4 rfl rfl ?_
  refine nd_iconst hC (v := nI 0) (by rfl) dJ1_init_5 ?_
  refine nd_put (ci := nJ2) hC in_J2 rfl hb 0 (by decide) tyJ2 tyJ2_ok (by decide +kernel) q257 (fun _ z => z) rfl rfl rfl (by show 0 < 3; decide) dJ1_init_6 ?_
  refine nd_return hC rfl (by omega) (by omega) dJ1_init_9 (hk)
theorem ni_J2 (hg : nd_OK g) (hd : 2 ≤ d) {x0 x1 x2 : Value} (hb : h[b]? = some (.inr (nJ2, [x0, x1, x2]))) (hk : K (.inl none) (h.set b (.inr (nJ2, [.int (nI 0), .float 201, x2])))) : nd_M g mJ2_init d 0 0 [.ref b] h K := by
  refine nd_enter hg (by decide) rfl (Nat.le_of_ble_eq_true rfl) (fun X hC => ?_)
  refine nd_aload_n hC dJ2_init_0 rfl rfl ?_
  refine nd_callI (mm2 := mJ1_init) (As := []) (mc2 := 0) (ms2 := 0) (d2 := d - 1) hC rfl rfl q246 q153 q244 q245 rfl lmJ1_init (Nat.le_of_ble_eq_true rfl) (by omega) rfl (by exact Nat.le_of_ble_eq_true rfl) (by omega) (by omega) dJ2_init_1 rfl ((ni_J1 hg (by omega) hb ?_))
  refine nd_aload_n hC dJ2_init_4 rfl rfl ?_
  refine nd_gets hC (r := ("java/util/ArrayList", "DEFAULTCAPACITY_EMPTY_ELEMENTDATA", "[Ljava/lang/Object;", .float 201)) (List.mem_of_getElem? (i := 2) rfl) q251 dJ2_init_5 ?_
  have ev : nd_v g (.float 201) = .ref (nd_sa g 201) := hC.fo.2.2.1.1
  refine nd_put (ci := nJ2) hC in_J2 rfl (List.getElem?_set_self (nd_get_lt hb)) 1 (by decide) tyJ2 tyJ2_ok (by decide +kernel) q253 (fun _ z => z) rfl (by rw [ev]; rfl) (by rw [ev]; rfl) (by show 1 < 3; decide) dJ2_init_8 ?_
  rw [List.set_set]
  refine nd_return hC rfl (by omega) (by omega) dJ2_init_11 (hk)

theorem ni_pX3_0 (hC : nd_Cx g mm X) {v : Nat} {x0 x1 x2 x3 x4 x5 x6 : Value} (hb : h[b]? = some (.inr (nX3, [x0, x1, x2, x3, x4, x5, x6]))) (hm : mm.1.cls = "NapkinDeeds$Napkin") (hi : mm.1.name = "<init>") (hd : decode mm.2.1 pc = .ok (.putfield 10, 3)) (kk : nd_W g mm d mc ms K X (pc + 3) lv st (h.set b (.inr (nX3, [.ref v, x1, x2, x3, x4, x5, x6]))) cs ss) : nd_W g mm d mc ms K X pc lv (.ref v :: .ref b :: st) h cs ss :=
  nd_putF (ci := nX3) hC in_X3 rfl hb 0 (by decide) tyX3 tyX3_ok (by decide +kernel) (by rw [hm]; exact q268) (fun _ z => z) rfl hi hm.symm rfl rfl (by show 0 < 7; decide) hd kk
theorem ni_pX3_1 (hC : nd_Cx g mm X) {v : Nat} {x0 x1 x2 x3 x4 x5 x6 : Value} (hb : h[b]? = some (.inr (nX3, [x0, x1, x2, x3, x4, x5, x6]))) (hm : mm.1.cls = "NapkinDeeds$Napkin") (hi : mm.1.name = "<init>") (hd : decode mm.2.1 pc = .ok (.putfield 16, 3)) (kk : nd_W g mm d mc ms K X (pc + 3) lv st (h.set b (.inr (nX3, [x0, .ref v, x2, x3, x4, x5, x6]))) cs ss) : nd_W g mm d mc ms K X pc lv (.ref v :: .ref b :: st) h cs ss :=
  nd_putF (ci := nX3) hC in_X3 rfl hb 1 (by decide) tyX3 tyX3_ok (by decide +kernel) (by rw [hm]; exact q271) (fun _ z => z) rfl hi hm.symm rfl rfl (by show 1 < 7; decide) hd kk
theorem ni_pX3_2 (hC : nd_Cx g mm X) {v : Nat} {x0 x1 x2 x3 x4 x5 x6 : Value} (hb : h[b]? = some (.inr (nX3, [x0, x1, x2, x3, x4, x5, x6]))) (hm : mm.1.cls = "NapkinDeeds$Napkin") (hi : mm.1.name = "<init>") (hd : decode mm.2.1 pc = .ok (.putfield 19, 3)) (kk : nd_W g mm d mc ms K X (pc + 3) lv st (h.set b (.inr (nX3, [x0, x1, .ref v, x3, x4, x5, x6]))) cs ss) : nd_W g mm d mc ms K X pc lv (.ref v :: .ref b :: st) h cs ss :=
  nd_putF (ci := nX3) hC in_X3 rfl hb 2 (by decide) tyX3 tyX3_ok (by decide +kernel) (by rw [hm]; exact q274) (fun _ z => z) rfl hi hm.symm rfl rfl (by show 2 < 7; decide) hd kk
theorem ni_pX2_1 (hC : nd_Cx g mm X) {v : Nat} {x0 x1 x2 x3 x4 : Value} (hb : h[b]? = some (.inr (nX2, [x0, x1, x2, x3, x4]))) (hm : mm.1.cls = "NapkinDeeds$State") (hi : mm.1.name = "<init>") (hd : decode mm.2.1 pc = .ok (.putfield 18, 3)) (kk : nd_W g mm d mc ms K X (pc + 3) lv st (h.set b (.inr (nX2, [x0, .ref v, x2, x3, x4]))) cs ss) : nd_W g mm d mc ms K X pc lv (.ref v :: .ref b :: st) h cs ss :=
  nd_putF (ci := nX2) hC in_X2 rfl hb 1 (by decide) tyX2 tyX2_ok (by decide +kernel) (by rw [hm]; exact q302) (fun _ z => z) rfl hi hm.symm rfl rfl (by show 1 < 5; decide) hd kk
theorem ni_pX2_2 (hC : nd_Cx g mm X) {v : Nat} {x0 x1 x2 x3 x4 : Value} (hb : h[b]? = some (.inr (nX2, [x0, x1, x2, x3, x4]))) (hm : mm.1.cls = "NapkinDeeds$State") (hi : mm.1.name = "<init>") (hd : decode mm.2.1 pc = .ok (.putfield 22, 3)) (kk : nd_W g mm d mc ms K X (pc + 3) lv st (h.set b (.inr (nX2, [x0, x1, .ref v, x3, x4]))) cs ss) : nd_W g mm d mc ms K X pc lv (.ref v :: .ref b :: st) h cs ss :=
  nd_putF (ci := nX2) hC in_X2 rfl hb 2 (by decide) tyX2 tyX2_ok (by decide +kernel) (by rw [hm]; exact q304) (fun _ z => z) rfl hi hm.symm rfl rfl (by show 2 < 5; decide) hd kk
theorem ni_pX2_3 (hC : nd_Cx g mm X) {v : Nat} {x0 x1 x2 x3 x4 : Value} (hb : h[b]? = some (.inr (nX2, [x0, x1, x2, x3, x4]))) (hm : mm.1.cls = "NapkinDeeds$State") (hi : mm.1.name = "<init>") (hd : decode mm.2.1 pc = .ok (.putfield 25, 3)) (kk : nd_W g mm d mc ms K X (pc + 3) lv st (h.set b (.inr (nX2, [x0, x1, x2, .ref v, x4]))) cs ss) : nd_W g mm d mc ms K X pc lv (.ref v :: .ref b :: st) h cs ss :=
  nd_putF (ci := nX2) hC in_X2 rfl hb 3 (by decide) tyX2 tyX2_ok (by decide +kernel) (by rw [hm]; exact q306) (fun _ z => z) rfl hi hm.symm rfl rfl (by show 3 < 5; decide) hd kk
theorem ni_X3 (hg : nd_OK g) (hd : 3 ≤ d) {x0 x1 x2 x3 x4 x5 x6 : Value} (hb : h[b]? = some (.inr (nX3, [x0, x1, x2, x3, x4, x5, x6]))) (hk : ∀ h2, gw b 3 h h2 → h2[b]? = some (.inr (nX3, [.ref h.length, .ref (h.length + 1), .ref (h.length + 2), x3, x4, x5, x6])) → (∀ k, k < 3 → h2[h.length + k]? = some (.inr (nJ2, [.int (nI 0), .float 201, .int (nI 0)]))) → K (.inl none) h2) : nd_M g mX3_init d 3 9 [.ref b] h K := by
  have hlt := nd_get_lt hb
  refine nd_enter hg (by decide) rfl (Nat.le_of_ble_eq_true rfl) (fun X hC => ?_)
  refine nd_aload_n hC dX3_init_0 rfl rfl ?_
  refine nd_objInit hC q238 q225 q226 (by exact Nat.le_of_ble_eq_true rfl) dX3_init_1 ?_
  have w0 : gw b 0 h h := ⟨rfl, fun _ _ _ => rfl⟩
  refine nd_aload_n hC dX3_init_4 rfl rfl ?_
  refine nd_new (ci := nJ2) hC [.int 0, .null, .int 0] in_J2 rfl tyJ2 tyJ2_ok q239 q240 q154 rfl rfl (by omega) (by omega) dX3_init_5 ?_
  refine nd_dup hC (by rfl) dX3_init_8 ?_
  refine nd_callI (mm2 := mJ2_init) (As := []) (mc2 := 0) (ms2 := 0) (d2 := d - 1) hC rfl rfl q243 q154 q241 q242 rfl lmJ2_init (Nat.le_of_ble_eq_true rfl) (by omega) rfl (by exact Nat.le_of_ble_eq_true rfl) (by omega) (by omega) dX3_init_9 rfl ((ni_J2 hg (by omega) (by rw [List.getElem?_append_right (Nat.le_refl _), Nat.sub_self]; rfl) ?_))
  rw [l_set_last]
  have lb0 : b < h.length := by rw [w0.1]; omega
  have pb0 : (h ++ [(.inr (nJ2, [.int (nI 0), .float 201, .int 0]) : nd_C)])[b]? = some (.inr (nX3, [x0, x1, x2, x3, x4, x5, x6])) := (List.getElem?_append_left lb0).trans hb
  refine ni_pX3_0 hC pb0 rfl rfl dX3_init_12 ?_
  have e0 : h.length = h.length := w0.1
  rw [e0]
  generalize z0 : (h ++ [(.inr (nJ2, [.int (nI 0), .float 201, .int 0]) : nd_C)]).set b (.inr (nX3, [.ref h.length, x1, x2, x3, x4, x5, x6])) = h1
  have w1 : gw b 1 h h1 := by rw [← z0]; exact w0.app.put
  have B1 : h1[b]? = some (.inr (nX3, [.ref h.length, x1, x2, x3, x4, x5, x6])) := by rw [← z0]; exact List.getElem?_set_self (nd_get_lt pb0)
  have N0 : h1[h.length + 0]? = some (.inr (nJ2, [.int (nI 0), .float 201, .int (nI 0)])) := by rw [← z0, List.getElem?_set_ne (by omega), List.getElem?_append_right (by omega), show h.length + 0 - h.length = 0 by omega]; rfl
  refine nd_aload_n hC dX3_init_15 rfl rfl ?_
  refine nd_new (ci := nJ2) hC [.int 0, .null, .int 0] in_J2 rfl tyJ2 tyJ2_ok q239 q240 q154 rfl rfl (by omega) (by omega) dX3_init_16 ?_
  refine nd_dup hC (by rfl) dX3_init_19 ?_
  refine nd_callI (mm2 := mJ2_init) (As := []) (mc2 := 0) (ms2 := 0) (d2 := d - 1) hC rfl rfl q243 q154 q241 q242 rfl lmJ2_init (Nat.le_of_ble_eq_true rfl) (by omega) rfl (by exact Nat.le_of_ble_eq_true rfl) (by omega) (by omega) dX3_init_20 rfl ((ni_J2 hg (by omega) (by rw [List.getElem?_append_right (Nat.le_refl _), Nat.sub_self]; rfl) ?_))
  rw [l_set_last]
  have lb1 : b < h1.length := by rw [w1.1]; omega
  have pb1 : (h1 ++ [(.inr (nJ2, [.int (nI 0), .float 201, .int 0]) : nd_C)])[b]? = some (.inr (nX3, [.ref h.length, x1, x2, x3, x4, x5, x6])) := (List.getElem?_append_left lb1).trans B1
  refine ni_pX3_1 hC pb1 rfl rfl dX3_init_23 ?_
  have e1 : h1.length = h.length + 1 := w1.1
  rw [e1]
  generalize z1 : (h1 ++ [(.inr (nJ2, [.int (nI 0), .float 201, .int 0]) : nd_C)]).set b (.inr (nX3, [.ref h.length, .ref (h.length + 1), x2, x3, x4, x5, x6])) = h2
  have w2 : gw b 2 h h2 := by rw [← z1]; exact w1.app.put
  have B2 : h2[b]? = some (.inr (nX3, [.ref h.length, .ref (h.length + 1), x2, x3, x4, x5, x6])) := by rw [← z1]; exact List.getElem?_set_self (nd_get_lt pb1)
  have N1 : h2[h.length + 1]? = some (.inr (nJ2, [.int (nI 0), .float 201, .int (nI 0)])) := by rw [← z1, List.getElem?_set_ne (by omega), List.getElem?_append_right (by omega), show h.length + 1 - h1.length = 0 by omega]; rfl
  have N0_2 : h2[h.length + 0]? = some (.inr (nJ2, [.int (nI 0), .float 201, .int (nI 0)])) := by rw [← z1, List.getElem?_set_ne (by omega), List.getElem?_append_left (by omega)]; exact N0
  refine nd_aload_n hC dX3_init_26 rfl rfl ?_
  refine nd_new (ci := nJ2) hC [.int 0, .null, .int 0] in_J2 rfl tyJ2 tyJ2_ok q239 q240 q154 rfl rfl (by omega) (by omega) dX3_init_27 ?_
  refine nd_dup hC (by rfl) dX3_init_30 ?_
  refine nd_callI (mm2 := mJ2_init) (As := []) (mc2 := 0) (ms2 := 0) (d2 := d - 1) hC rfl rfl q243 q154 q241 q242 rfl lmJ2_init (Nat.le_of_ble_eq_true rfl) (by omega) rfl (by exact Nat.le_of_ble_eq_true rfl) (by omega) (by omega) dX3_init_31 rfl ((ni_J2 hg (by omega) (by rw [List.getElem?_append_right (Nat.le_refl _), Nat.sub_self]; rfl) ?_))
  rw [l_set_last]
  have lb2 : b < h2.length := by rw [w2.1]; omega
  have pb2 : (h2 ++ [(.inr (nJ2, [.int (nI 0), .float 201, .int 0]) : nd_C)])[b]? = some (.inr (nX3, [.ref h.length, .ref (h.length + 1), x2, x3, x4, x5, x6])) := (List.getElem?_append_left lb2).trans B2
  refine ni_pX3_2 hC pb2 rfl rfl dX3_init_34 ?_
  have e2 : h2.length = h.length + 2 := w2.1
  rw [e2]
  generalize z2 : (h2 ++ [(.inr (nJ2, [.int (nI 0), .float 201, .int 0]) : nd_C)]).set b (.inr (nX3, [.ref h.length, .ref (h.length + 1), .ref (h.length + 2), x3, x4, x5, x6])) = h3
  have w3 : gw b 3 h h3 := by rw [← z2]; exact w2.app.put
  have B3 : h3[b]? = some (.inr (nX3, [.ref h.length, .ref (h.length + 1), .ref (h.length + 2), x3, x4, x5, x6])) := by rw [← z2]; exact List.getElem?_set_self (nd_get_lt pb2)
  have N2 : h3[h.length + 2]? = some (.inr (nJ2, [.int (nI 0), .float 201, .int (nI 0)])) := by rw [← z2, List.getElem?_set_ne (by omega), List.getElem?_append_right (by omega), show h.length + 2 - h2.length = 0 by omega]; rfl
  have N0_3 : h3[h.length + 0]? = some (.inr (nJ2, [.int (nI 0), .float 201, .int (nI 0)])) := by rw [← z2, List.getElem?_set_ne (by omega), List.getElem?_append_left (by omega)]; exact N0_2
  have N1_3 : h3[h.length + 1]? = some (.inr (nJ2, [.int (nI 0), .float 201, .int (nI 0)])) := by rw [← z2, List.getElem?_set_ne (by omega), List.getElem?_append_left (by omega)]; exact N1
  have R := hk h3 w3 B3 (fun k hk => by
    match k, hk with
    | 0, _ => exact N0_3
    | 1, _ => exact N1_3
    | 2, _ => exact N2)
  refine nd_return hC rfl (by omega) (by omega) dX3_init_37 (R)
theorem ni_X2 (hg : nd_OK g) (hd : 4 ≤ d) (hL : h.length = b + 1) (hb : h[b]? = some (.inr (nX2, [.null, .null, .null, .null, .int 0]))) (hk : ∀ h2, gw b 7 h h2 → cs_S h2 b (b + 1) (fun _ => 0) (fun _ => 0) (fun _ => 0) (nI 0) → h2[b + 1]? = some (.inr (nX3, [.ref (b + 2), .ref (b + 3), .ref (b + 4), .int (nI 0), .null, .null, .null])) → (∀ k, k < 3 → h2[b + 2 + k]? = some (.inr (nJ2, [.int (nI 0), .float 201, .int (nI 0)]))) → K (.inl none) h2) : nd_M g mX2_init d 7 33 [.ref b] h K := by
  have hlt := nd_get_lt hb
  refine nd_enter hg (by decide) rfl (Nat.le_of_ble_eq_true rfl) (fun X hC => ?_)
  refine nd_aload_n hC dX2_init_0 rfl rfl ?_
  refine nd_objInit hC q232 q225 q226 (by exact Nat.le_of_ble_eq_true rfl) dX2_init_1 ?_
  refine nd_aload_n hC dX2_init_4 rfl rfl ?_
  refine nd_new (ci := nX3) hC [.null, .null, .null, .int 0, .null, .null, .null] in_X3 rfl tyX3 tyX3_ok q233 q234 q151 rfl rfl (by omega) (by omega) dX2_init_5 ?_
  refine nd_dup hC (by rfl) dX2_init_8 ?_
  refine nd_callIN (mm2 := mX3_init) (As := []) (mc2 := 3) (ms2 := 9) (d2 := d - 1) hC rfl rfl q237 q151 q235 q236 rfl lmX3_init (Nat.le_of_ble_eq_true rfl) (by omega) rfl (by exact Nat.le_of_ble_eq_true rfl) (by omega) (by omega) dX2_init_9 rfl ((ni_X3 hg (by omega) (by rw [List.getElem?_append_right (Nat.le_refl _), Nat.sub_self]; rfl) ?_))
  intro h1 v1 v2 v3
  rw [List.length_append, hL] at v2 v3
  have l1 : h1.length = b + 5 := by rw [v1.1, List.length_append, hL]; rfl
  have k1 : ∀ c, c < h.length → h1[c]? = h[c]? := fun c hc => (v1.2 c (by omega) (by rw [List.length_append]; omega)).trans (List.getElem?_append_left hc)
  have b1 := (k1 b hlt).trans hb
  rw [hL]
  refine cs_putN hC b1 q300 dX2_init_12 ?_
  generalize z2 : h1.set b (.inr (nX2, [.ref (b + 1), .null, .null, .null, .int 0])) = h2
  have l2 : h2.length = b + 5 := by rw [← z2, List.length_set, l1]
  have k2 : ∀ c, c ≠ b → h2[c]? = h1[c]? := fun c hc => by rw [← z2]; exact List.getElem?_set_ne (Ne.symm hc)
  have b2 : h2[b]? = some (.inr (nX2, [.ref (b + 1), .null, .null, .null, .int 0])) := by rw [← z2]; exact List.getElem?_set_self (by omega)
  refine nd_aload_n hC dX2_init_15 rfl rfl ?_
  refine nd_bipush hC (v := nI 6) (by rfl) dX2_init_16 ?_
  refine nd_newarray hC (atype := .int) (ty := 0) .int (.inl (fun _ => 0)) q322 rfl rfl (fun _ _ => rfl) (N := 6) rfl (by decide) (by decide) (by omega) (by omega) dX2_init_18 ?_
  rw [l2]
  have c3 : (h2 ++ [(.inl (0, 6, .inl (fun _ => 0)) : nd_C)])[b]? = some (.inr (nX2, [.ref (b + 1), .null, .null, .null, .int 0])) := (List.getElem?_append_left (by omega)).trans b2
  refine ni_pX2_1 hC c3 rfl rfl dX2_init_20 ?_
  generalize z3 : (h2 ++ [(.inl (0, 6, .inl (fun _ => 0)) : nd_C)]).set b (.inr (nX2, [.ref (b + 1), .ref (b + 5), .null, .null, .int 0])) = h3
  have l3 : h3.length = b + 6 := by rw [← z3, List.length_set, List.length_append, l2]; rfl
  have k3 : ∀ c, c ≠ b → c < b + 5 → h3[c]? = h2[c]? := fun c hc hl => by rw [← z3, List.getElem?_set_ne (Ne.symm hc)]; exact List.getElem?_append_left (by omega)
  have b3 : h3[b]? = some (.inr (nX2, [.ref (b + 1), .ref (b + 5), .null, .null, .int 0])) := by rw [← z3]; exact List.getElem?_set_self (by rw [List.length_append]; omega)
  have r3 : h3[b + 5]? = some (.inl (0, 6, .inl (fun _ => 0)) : nd_C) := by rw [← z3, List.getElem?_set_ne (by omega), List.getElem?_append_right (by omega), show b + 5 - h2.length = 0 by omega]; rfl
  refine nd_aload_n hC dX2_init_23 rfl rfl ?_
  refine nd_bipush hC (v := nI 6) (by rfl) dX2_init_24 ?_
  refine nd_newarray hC (atype := .int) (ty := 0) .int (.inl (fun _ => 0)) q322 rfl rfl (fun _ _ => rfl) (N := 6) rfl (by decide) (by decide) (by omega) (by omega) dX2_init_26 ?_
  rw [l3]
  have c4 : (h3 ++ [(.inl (0, 6, .inl (fun _ => 0)) : nd_C)])[b]? = some (.inr (nX2, [.ref (b + 1), .ref (b + 5), .null, .null, .int 0])) := (List.getElem?_append_left (by omega)).trans b3
  refine ni_pX2_2 hC c4 rfl rfl dX2_init_28 ?_
  generalize z4 : (h3 ++ [(.inl (0, 6, .inl (fun _ => 0)) : nd_C)]).set b (.inr (nX2, [.ref (b + 1), .ref (b + 5), .ref (b + 6), .null, .int 0])) = h4
  have l4 : h4.length = b + 7 := by rw [← z4, List.length_set, List.length_append, l3]; rfl
  have k4 : ∀ c, c ≠ b → c < b + 6 → h4[c]? = h3[c]? := fun c hc hl => by rw [← z4, List.getElem?_set_ne (Ne.symm hc)]; exact List.getElem?_append_left (by omega)
  have b4 : h4[b]? = some (.inr (nX2, [.ref (b + 1), .ref (b + 5), .ref (b + 6), .null, .int 0])) := by rw [← z4]; exact List.getElem?_set_self (by rw [List.length_append]; omega)
  have r4 : h4[b + 6]? = some (.inl (0, 6, .inl (fun _ => 0)) : nd_C) := by rw [← z4, List.getElem?_set_ne (by omega), List.getElem?_append_right (by omega), show b + 6 - h3.length = 0 by omega]; rfl
  refine nd_aload_n hC dX2_init_31 rfl rfl ?_
  refine nd_iconst hC (v := nI 5) (by rfl) dX2_init_32 ?_
  refine nd_newarray hC (atype := .int) (ty := 0) .int (.inl (fun _ => 0)) q322 rfl rfl (fun _ _ => rfl) (N := 5) rfl (by decide) (by decide) (by omega) (by omega) dX2_init_33 ?_
  rw [l4]
  have c5 : (h4 ++ [(.inl (0, 5, .inl (fun _ => 0)) : nd_C)])[b]? = some (.inr (nX2, [.ref (b + 1), .ref (b + 5), .ref (b + 6), .null, .int 0])) := (List.getElem?_append_left (by omega)).trans b4
  refine ni_pX2_3 hC c5 rfl rfl dX2_init_35 ?_
  generalize z5 : (h4 ++ [(.inl (0, 5, .inl (fun _ => 0)) : nd_C)]).set b (.inr (nX2, [.ref (b + 1), .ref (b + 5), .ref (b + 6), .ref (b + 7), .int 0])) = h5
  have l5 : h5.length = b + 8 := by rw [← z5, List.length_set, List.length_append, l4]; rfl
  have k5 : ∀ c, c ≠ b → c < b + 7 → h5[c]? = h4[c]? := fun c hc hl => by rw [← z5, List.getElem?_set_ne (Ne.symm hc)]; exact List.getElem?_append_left (by omega)
  have b5 : h5[b]? = some (.inr (nX2, [.ref (b + 1), .ref (b + 5), .ref (b + 6), .ref (b + 7), .int 0])) := by rw [← z5]; exact List.getElem?_set_self (by rw [List.length_append]; omega)
  have r5 : h5[b + 7]? = some (.inl (0, 5, .inl (fun _ => 0)) : nd_C) := by rw [← z5, List.getElem?_set_ne (by omega), List.getElem?_append_right (by omega), show b + 7 - h4.length = 0 by omega]; rfl
  have kk : ∀ c, c ≠ b → c < b + 5 → h5[c]? = h1[c]? := fun c hc hl => (k5 c hc (by omega)).trans ((k4 c hc (by omega)).trans ((k3 c hc (by omega)).trans (k2 c hc)))
  have R := hk h5 ⟨by rw [l5, hL], fun c hc hl => (kk c hc (by omega)).trans (k1 c hl)⟩ ⟨b5, (k5 _ (by omega) (by omega)).trans ((k4 _ (by omega) (by omega)).trans r3), (k5 _ (by omega) (by omega)).trans r4, r5⟩ ((kk _ (by omega) (by omega)).trans v2) (fun k hk => (kk _ (by omega) (by omega)).trans (v3 k hk))
  refine nd_return hC rfl (by omega) (by omega) dX2_init_38 (R)
end IN64

