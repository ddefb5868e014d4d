set_option maxRecDepth 100000
theorem nd_vf {g : nd_G} {k : Nat} (hk : k < 4000000000) : nd_v g (nd_f k) = nd_fv g k := by
  show nd_fv g (UInt32.ofNat k).toNat = _
  rw [UInt32.toNat_ofNat', Nat.mod_eq_of_lt (by omega)]
theorem nd_str_lt {i : Nat} {r : String × Nat × String × List Nat} (h : nd_str[i]? = some r) : i < 33 := (List.getElem?_eq_some_iff.mp h).1
section NDFO
variable {g : nd_G} {mm : nd_Mt} {d mc ms : Nat} {K : nd_K} {X : nd_X} {pc : Nat} {lv : List (Option Value)} {st : List Value} {h : nd_H} {cs ss : Nat}
theorem nd_Cx.fo (h : nd_Cx g mm X) : nd_FO g := h.ok.2.2.2
theorem nd_Cx.al (h : nd_Cx g mm X) : (nd_s g).vm.Alike X.2.2.1.vm := h.amb.2.2.1
/-- foreign cells are as they were at the law's entry -/
theorem nd_frn (hC : nd_Cx g mm X) {H : Heap} {locs : List Loc} (hR : nd_R g h H) (hS : va_S (nd_fr g) X.2.2.1.heap H locs) : ∀ a : Nat, a < (nd_s g).heap.size → ¬ nd_fr g a → X.2.2.1.heap[a]? = (nd_s g).heap[a]? :=
  fun a ha hn => (hS.2.1 a (Nat.lt_of_lt_of_le ha hC.z) hn).symm.trans (hR.2.1 a ha)
theorem nd_ldcS (hC : nd_Cx g mm X) {i : Nat} {r : String × Nat × String × List Nat} (hr : nd_str[i]? = some r) (ho : r.1 = mm.1.cls) (hd : decode mm.2.1 pc = .ok (.ldc r.2.1, 2)) (k : nd_W g mm d mc ms K X (pc + 2) lv (nd_f i :: st) h cs ss) : nd_W g mm d mc ms K X pc lv st h cs ss := by
  intro H ls locs hl hR hS
  have k1 := k H ls locs hl hR hS
  have hi := nd_str_lt hr
  rw [List.map_cons, nd_vf (by omega), (hC.fo.1 i r hr).1] at k1
  exact va_ldcS hC.1 hC.2.1 hC.own (by rw [← ho]; exact hC.amb.2.2.2.1 i r hr) hd k1
theorem nd_valF (hC : nd_Cx g mm X) {i index : Nat} {r : String × Nat × String × List Nat} (hr : nd_str[i]? = some r) (hlink : Cond.fieldLink mm.1.cls index "java/lang/String" "value" "[B" ∈ lw_all) (hd : decode mm.2.1 pc = .ok (.getfield index, 3)) (k : nd_W g mm d mc ms K X (pc + 3) lv (nd_f (100 + i) :: st) h cs ss) : nd_W g mm d mc ms K X pc lv (nd_f i :: st) h cs ss := by
  intro H ls locs hl hR hS
  have k1 := k H ls locs hl hR hS
  have hi := nd_str_lt hr
  obtain ⟨e1, e2, -, -, f1, -⟩ := hC.fo.1 i r hr
  rw [List.map_cons, nd_vf (by omega), e2] at k1
  rw [List.map_cons, nd_vf (by omega), e1]
  exact vk_getf hC.1 hC.2.1 ((va_OF.moved hC.al f1).kept (nd_frn hC hR hS)) hS hC.own (hC.hts _ hlink) (fun _ z => z) hd k1
theorem nd_codF (hC : nd_Cx g mm X) {i index : Nat} {r : String × Nat × String × List Nat} (hr : nd_str[i]? = some r) (hlink : Cond.fieldLink mm.1.cls index "java/lang/String" "coder" "B" ∈ lw_all) (hd : decode mm.2.1 pc = .ok (.getfield index, 3)) (k : nd_W g mm d mc ms K X (pc + 3) lv (.int (nI 0) :: st) h cs ss) : nd_W g mm d mc ms K X pc lv (nd_f i :: st) h cs ss := by
  intro H ls locs hl hR hS
  have k1 := k H ls locs hl hR hS
  have hi := nd_str_lt hr
  obtain ⟨e1, -, -, f1, -⟩ := hC.fo.1 i r hr
  rw [List.map_cons, nd_vf (by omega), e1]
  exact vk_getf hC.1 hC.2.1 ((va_OF.moved hC.al f1).kept (nd_frn hC hR hS)) hS hC.own (hC.hts _ hlink) (fun _ z => z) hd k1
theorem nd_alenF (hC : nd_Cx g mm X) {i : Nat} {r : String × Nat × String × List Nat} (hr : nd_str[i]? = some r) (hd : decode mm.2.1 pc = .ok (.arraylength, 1)) (k : nd_W g mm d mc ms K X (pc + 1) lv (.int (nI r.2.2.2.length) :: st) h cs ss) : nd_W g mm d mc ms K X pc lv (nd_f (100 + i) :: st) h cs ss := by
  intro H ls locs hl hR hS
  have k1 := k H ls locs hl hR hS
  have hi := nd_str_lt hr
  obtain ⟨e1, e2, -, -, -, f1⟩ := hC.fo.1 i r hr
  rw [List.map_cons, nd_vf (by omega), e2]
  exact va_tlen hC.1 hC.2.1 ((va_T.moved hC.al f1).kept (nd_frn hC hR hS)) hS (v := nI r.2.2.2.length) rfl hd k1
theorem nd_baldF (hC : nd_Cx g mm X) {i j : Nat} {r : String × Nat × String × List Nat} (hr : nd_str[i]? = some r) (hj : j < r.2.2.2.length) (hj2 : j < 2147483648) (hd : decode mm.2.1 pc = .ok (.baload, 1)) (k : nd_W g mm d mc ms K X (pc + 1) lv (.int (nI (r.2.2.2.getD j 0)) :: st) h cs ss) : nd_W g mm d mc ms K X pc lv (.int (nI j) :: nd_f (100 + i) :: st) h cs ss := by
  intro H ls locs hl hR hS
  have k1 := k H ls locs hl hR hS
  have hi := nd_str_lt hr
  obtain ⟨e1, e2, -, -, -, f1⟩ := hC.fo.1 i r hr
  rw [List.map_cons, List.map_cons, nd_vf (by omega), e2]
  have hij : (nI j).toInt = (j : Int) := nI_toInt hj2
  refine va_tb hC.1 hC.2.1 ((va_T.moved hC.al f1).kept (nd_frn hC hR hS)) hS (nd_inn hij hj) (v := .int (nI (r.2.2.2.getD j 0))) ?_ hd k1
  rw [nd_toNat hij]
theorem nd_gets (hC : nd_Cx g mm X) {index : Nat} {r : String × String × String × Value} (hr : r ∈ nd_sta) (hlink : Cond.fieldLink mm.1.cls index r.1 r.2.1 r.2.2.1 ∈ lw_all) (hd : decode mm.2.1 pc = .ok (.getstatic index, 3)) (k : nd_W g mm d mc ms K X (pc + 3) lv (r.2.2.2 :: st) h cs ss) : nd_W g mm d mc ms K X pc lv st h cs ss :=
  fun H ls locs hl hR hS => va_gets hC.1 hC.2.1 ((va_Z.moved hC.al (hC.fo.2.1 r hr)).kept (nd_frn hC hR hS)) hS hC.own (hC.hts _ hlink) (fun _ z => z) hd (k H ls locs hl hR hS)
/-- a call of a String constant's method -/
theorem nd_callVF (hC : nd_Cx g mm X) {mm2 : nd_Mt} {index n d2 i : Nat} {As rest : List Value} {r : String × Nat × String × List Nat} (hr : nd_str[i]? = some r) (hh : mm2.2.2.2.2 = none) (hG : GoodIn lw_all (wsV mm.1.cls index "java/lang/String" mm2.1 (nd_ws mm2))) (hy : mm2.1.cls = "java/lang/String" ∧ mm2.1.cls ≠ "java/lang/invoke/MethodHandle" ∧ mm2.1.cls ≠ "java/lang/invoke/VarHandle" ∧ (parseMethodDescriptor mm2.1.desc).map (fun d => d.parameters.length) = some n) (hL : mm2.2.2.1 ≤ 45) (hdep : d2 + 1 ≤ d) (hn : As.length = n) (hrest : (rest.map nd_cn).sum ≤ 8) (hcs : cs ≤ mc) (hss : ss ≤ ms) (hd : decode mm.2.1 pc = .ok (.invokevirtual index, 3)) (hst : st = As.reverse ++ nd_f i :: rest) (hM : nd_M g mm2 d2 0 0 (nd_f i :: As) h (nd_Kc g mm d mc ms K X pc 3 lv rest cs ss)) : nd_W g mm d mc ms K X pc lv st h cs ss := by
  obtain ⟨y, cc2, L2, r2, h2⟩ := mm2
  dsimp only at hh
  subst hh
  intro H ls locs hl hR hS
  subst hst
  have hi := nd_str_lt hr
  obtain ⟨e1, -, fO, -⟩ := hC.fo.1 i r hr
  have ev : nd_v g (nd_f i) = .ref (nd_sa g i) := (nd_vf (by omega)).trans e1
  have eM : (nd_f i :: As).map (nd_v g) = .ref (nd_sa g i) :: As.map (nd_v g) := by rw [List.map_cons, ev]
  have eS : (As.reverse ++ nd_f i :: rest).map (nd_v g) = (As.map (nd_v g)).reverse ++ .ref (nd_sa g i) :: rest.map (nd_v g) := by rw [List.map_append, List.map_cons, List.map_reverse, ev]
  unfold nd_M at hM
  rw [eM] at hM
  rw [eS]
  have hpre : PreV X.2.2.1 H "java/lang/String" (nd_sa g i) (va_Pc (.ref (nd_sa g i) :: As.map (nd_v g)) (fun U => nd_R g h U.heap ∧ nd_Amb g U)) (As.map (nd_v g)) := by
    refine ⟨nd_blind g h _, ?_, fun U hU hW => ⟨rfl, by rw [hU]; exact hR, hC.amb.warm hW⟩⟩
    obtain ⟨cell, c1, c2, c3, -⟩ := ((va_O.moved hC.al fO).kept (nd_frn hC hR hS)).kept hS.2.1
    exact ⟨cell, c1, c2, c3⟩
  refine nd_go3 (a9 := (.ref (nd_sa g i) :: As.map (nd_v g)).toArray) (mc' := 0) (ms' := 0) (st := rest) hl hS ?_
  exact vx_runV (As := As.map (nd_v g)) (nd_fix hC) hM (cwV n hC.hts hG rfl rfl rfl hy (nd_roomR hdep hL)) hpre rfl (by rw [List.length_map]; exact hn) (by rw [hl.1]) rfl (lv_room (by rw [nd_cn_sum hC.ok]; exact hrest)) hd ⟨hcs, hss⟩
end NDFO
