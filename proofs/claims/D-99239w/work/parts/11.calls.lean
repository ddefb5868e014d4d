set_option maxRecDepth 100000
def nd_cn (v : Value) : Nat := match v with
  | .long _ => 2
  | .double _ => 2
  | _ => 1
theorem nd_cn_v {g : nd_G} (hg : nd_OK g) (v : Value) : (nd_v g v).category = nd_cn v := by
  cases v with
  | float u => exact nd_c1 hg rfl
  | _ => rfl
theorem nd_cn_sum {g : nd_G} (hg : nd_OK g) (st : List Value) : ((st.map (nd_v g)).map fun v => v.category).sum = (st.map nd_cn).sum := by
  rw [List.map_map]
  congr 1
  exact List.map_congr_left (fun v _ => nd_cn_v hg v)
theorem nd_Amb.same {g : nd_G} {u U : State} (e : u.vm = U.vm) (h : nd_Amb g u) : nd_Amb g U := by
  refine ⟨va_K.moved (by rw [e]; exact Vm.Alike.refl _) h.1, fun w hw => ?_, by rw [← e]; exact h.2.2.1, fun i r hr => vk_R.same e.symm (h.2.2.2.1 i r hr), h.2.2.2.2.same e⟩
  have h1 := h.2.1 w hw
  have h2 : nd_isN w = true := (List.mem_filter.mp hw).2
  cases w with
  | fieldLinkNest a b c d e9 f => exact va_Nw.same rfl e h1
  | methodLinkNest a b c d => exact va_Nw.same rfl e h1
  | _ => exact absurd (show false = true from h2) (by decide)
theorem nd_blind (g : nd_G) (h : nd_H) (av : List Value) : FrameBlind (va_Pc av (fun U => nd_R g h U.heap ∧ nd_Amb g U)) := by
  intro a U f mk q
  obtain ⟨q0, q1, q2⟩ := q
  exact ⟨q0, q1, nd_Amb.same (u := U) (U := U.calling f mk a) rfl q2⟩
/-- what a caller makes of its callee's outcome: it goes on n bytes behind pc, or a throw is under way -/
abbrev nd_Kc (g : nd_G) (mm : nd_Mt) (d mc ms : Nat) (K : nd_K) (X : nd_X) (pc n : Nat) (lv : List (Option Value)) (st : List Value) (cs ss : Nat) : nd_K := fun r h => match r with
  | .inl none => nd_W g mm d mc ms K X (pc + n) lv st h cs ss
  | .inl (some v) => nd_W g mm d mc ms K X (pc + n) lv (v :: st) h cs ss
  | .inr q => nd_T g mm d mc ms K X pc lv q.1 q.2 h cs ss
section NDC
variable {g : nd_G} {mm : nd_Mt} {d mc ms : Nat} {K : nd_K} {X : nd_X} {pc : Nat} {lv : List (Option Value)} {st : List Value} {h : nd_H} {cs ss : Nat}
theorem nd_fix (hC : nd_Cx g mm X) : CallFix X.1 X.2.2.2.1 X.2.2.2.2.2.2.2 mm.2.1 mm.2.2.1 X.2.2.1 X.2.2.2.2.1 lw_all mm.1.cls := ⟨hC.1, hC.2.1, hC.ml, hC.own, hC.hts⟩
theorem nd_roomR {d' L mc' ms' : Nat} (hd : d' + 1 ≤ d) (hL : L ≤ 45) : (nd_rm d' mc' ms').frames + 1 ≤ (nd_rm d mc ms).frames ∧ 8 + (L + 11) + (nd_rm d' mc' ms').locals ≤ (nd_rm d mc ms).locals := by
  simp only [nd_rm]
  omega
theorem nd_preS {H : Heap} {As : List Value} (hC : nd_Cx g mm X) (hR : nd_R g h H) : PreS X.2.2.1 H (va_Pc (As.map (nd_v g)) (fun U => nd_R g h U.heap ∧ nd_Amb g U)) (As.map (nd_v g)) :=
  ⟨nd_blind g h _, fun U hU hW => ⟨rfl, by rw [hU]; exact hR, hC.amb.warm hW⟩⟩
theorem nd_recv {H : Heap} {b ci : Nat} {fs : List Value} {r : vw_C} (hC : nd_Cx g mm X) (hR : nd_R g h H) (hb : h[b]? = some (.inr (ci, fs))) (hc : nd_cl[ci]? = some r) : ∃ cell : Cell, H[nd_z g + b]? = some cell ∧ cell.vm.isStatics = false ∧ X.2.2.1.vm.findClass r.1 = some cell.cls :=
  va_recv hC.amb.1 (nd_P1 hR hb hc) hc (q0 := 0) rfl
theorem nd_preV {H : Heap} {b ci : Nat} {fs As : List Value} {r : vw_C} (hC : nd_Cx g mm X) (hR : nd_R g h H) (hb : h[b]? = some (.inr (ci, fs))) (hc : nd_cl[ci]? = some r) : PreV X.2.2.1 H r.1 (nd_z g + b) (va_Pc ((.ref b :: As).map (nd_v g)) (fun U => nd_R g h U.heap ∧ nd_Amb g U)) (As.map (nd_v g)) :=
  ⟨nd_blind g h _, nd_recv hC hR hb hc, fun U hU hW => ⟨rfl, by rw [hU]; exact hR, hC.amb.warm hW⟩⟩
theorem nd_after {H : Heap} {locs L : List Loc} {H0 H1 : Heap} {t st0 : State} (hS : va_S (nd_fr g) H0 H locs) (h0 : st0.heap = H) (e1 : H1 = t.heap) (hL : ∀ q ∈ L, nd_fr g q.base) (hF : va_F (nd_fr g) st0 t) : va_S (nd_fr g) H0 H1 (locs ++ L) := by
  subst h0
  subst e1
  refine ⟨Nat.le_trans hS.1 hF.1, fun q h1 h2 => (hF.2 q (Nat.lt_of_lt_of_le h1 hS.1) h2).trans (hS.2.1 q h1 h2), fun q hq => ?_⟩
  rcases List.mem_append.mp hq with z | z
  · exact hS.2.2 q z
  · exact hL q z
theorem nd_go3 {H : Heap} {ls : Array Slot} {locs : List Loc} {a9 : Array Value} {mc' ms' : Nat} {st0 : List Value} (hl : nd_L g ls mm.2.2.1 lv) (hS : va_S (nd_fr g) X.2.2.1.heap H locs)
    (hr : vx_Run X.1 (nd_l g) X.2.1 (nd_rm d mc ms) X.2.2.1 X.2.2.2.1 X.2.2.2.2.1 X.2.2.2.2.2.1 X.2.2.2.2.2.2.1 X.2.2.2.2.2.2.2 H locs cs ss mc' ms' (F0 X.2.2.2.1 pc ls st0) (st.map (nd_v g)) (nd_Qc g (nd_Kc g mm d mc ms K X pc 3 lv st (cs + mc') (ss + ms')) a9) (nd_XC g (nd_Kc g mm d mc ms K X pc 3 lv st (cs + mc') (ss + ms'))) (nd_fr g)) :
    W X.1 (nd_l g) X.2.1 (nd_rm d mc ms) X.2.2.1 X.2.2.2.1 X.2.2.2.2.1 X.2.2.2.2.2.1 X.2.2.2.2.2.2.1 X.2.2.2.2.2.2.2 H locs cs ss (vx_MQ X.2.2.2.2.2.1 (nd_Qc g K) (nd_XC g K) X.2.2.2.2.1 X.2.2.1 mc ms (nd_fr g)) (F0 X.2.2.2.1 pc ls st0) := by
  intro T hT X0
  rcases hr T hT X0 with ⟨v, s0, t, T1, L, h0, X1, hL, e1, e2, ⟨⟨v1, h1, ho, hK, hR1⟩, hF⟩, hgo⟩ | ⟨q, s0, t, T1, L, E, ce, h0, X1, hL, e1, e2, ⟨⟨k1, h1, hq, hK, hR1⟩, hF⟩, hcell, hvm, hcl, hgo⟩
  · cases Outcome.returned.inj ho
    rw [← e1] at hR1
    cases v1 with
    | none =>
      obtain ⟨t2, a1, b1⟩ := hK T1.heap ls (locs ++ L) hl hR1 (nd_after hS h0 e1 hL hF) T1 rfl X1
      exact ⟨t2, hgo t2 a1, b1⟩
    | some w =>
      obtain ⟨t2, a1, b1⟩ := hK T1.heap ls (locs ++ L) hl hR1 (nd_after hS h0 e1 hL hF) T1 rfl X1
      exact ⟨t2, hgo t2 a1, b1⟩
  · subst hq
    rw [← e1] at hR1 hcell
    obtain ⟨t2, a1, b1⟩ := hK T1.heap ls (locs ++ L) (st.map (nd_v g)) ce hl hR1 (nd_after hS h0 e1 hL hF) hcell hvm hcl T1 rfl X1
    exact ⟨t2, Steps.trans hgo a1, b1⟩
theorem nd_go5 {H : Heap} {ls : Array Slot} {locs : List Loc} {a9 : Array Value} {mc' ms' : Nat} {st0 : List Value} (hl : nd_L g ls mm.2.2.1 lv) (hS : va_S (nd_fr g) X.2.2.1.heap H locs)
    (hr : vx_Run5 X.1 (nd_l g) X.2.1 (nd_rm d mc ms) X.2.2.1 X.2.2.2.1 X.2.2.2.2.1 X.2.2.2.2.2.1 X.2.2.2.2.2.2.1 X.2.2.2.2.2.2.2 H locs cs ss mc' ms' (F0 X.2.2.2.1 pc ls st0) (st.map (nd_v g)) (nd_Qc g (nd_Kc g mm d mc ms K X pc 5 lv st (cs + mc') (ss + ms')) a9) (nd_XC g (nd_Kc g mm d mc ms K X pc 5 lv st (cs + mc') (ss + ms'))) (nd_fr g)) :
    W X.1 (nd_l g) X.2.1 (nd_rm d mc ms) X.2.2.1 X.2.2.2.1 X.2.2.2.2.1 X.2.2.2.2.2.1 X.2.2.2.2.2.2.1 X.2.2.2.2.2.2.2 H locs cs ss (vx_MQ X.2.2.2.2.2.1 (nd_Qc g K) (nd_XC g K) X.2.2.2.2.1 X.2.2.1 mc ms (nd_fr g)) (F0 X.2.2.2.1 pc ls st0) := by
  intro T hT X0
  rcases hr T hT X0 with ⟨v, s0, t, T1, L, h0, X1, hL, e1, e2, ⟨⟨v1, h1, ho, hK, hR1⟩, hF⟩, hgo⟩ | ⟨q, s0, t, T1, L, E, ce, h0, X1, hL, e1, e2, ⟨⟨k1, h1, hq, hK, hR1⟩, hF⟩, hcell, hvm, hcl, hgo⟩
  · cases Outcome.returned.inj ho
    rw [← e1] at hR1
    cases v1 with
    | none =>
      obtain ⟨t2, a1, b1⟩ := hK T1.heap ls (locs ++ L) hl hR1 (nd_after hS h0 e1 hL hF) T1 rfl X1
      exact ⟨t2, hgo t2 a1, b1⟩
    | some w =>
      obtain ⟨t2, a1, b1⟩ := hK T1.heap ls (locs ++ L) hl hR1 (nd_after hS h0 e1 hL hF) T1 rfl X1
      exact ⟨t2, hgo t2 a1, b1⟩
  · subst hq
    rw [← e1] at hR1 hcell
    obtain ⟨t2, a1, b1⟩ := hK T1.heap ls (locs ++ L) (st.map (nd_v g)) ce hl hR1 (nd_after hS h0 e1 hL hF) hcell hvm hcl T1 rfl X1
    exact ⟨t2, Steps.trans hgo a1, b1⟩
theorem nd_callV (hC : nd_Cx g mm X) {mm2 : nd_Mt} {index n d2 mc2 ms2 : Nat} {As rest : List Value} {b : Nat} (hh : mm2.2.2.2.2 = none) {C : String} {ci : Nat} {fs : List Value} {T : u_T} {N : Nat} (hG : GoodIn lw_all (wsV mm.1.cls index C mm2.1 (ws_ mm2.1 mm2.2.1 mm2.2.2.1 mm2.2.2.2.1))) (hy : mm2.1.cls = C ∧ mm2.1.cls ≠ "java/lang/invoke/MethodHandle" ∧ mm2.1.cls ≠ "java/lang/invoke/VarHandle" ∧ (parseMethodDescriptor mm2.1.desc).map (fun d => d.parameters.length) = some n) (hb : h[b]? = some (.inr (ci, fs))) (hc : nd_cl[ci]? = some (C, T, N)) (hL : mm2.2.2.1 ≤ 45) (hdep : d2 + 1 ≤ d) (hn : As.length = n) (hrest : (rest.map nd_cn).sum ≤ 8) (hcs : cs + mc2 ≤ mc) (hss : ss + ms2 ≤ ms) (hd : decode mm.2.1 pc = .ok (.invokevirtual index, 3)) (hst : st = As.reverse ++ .ref b :: rest) (hM : nd_M g mm2 d2 mc2 ms2 (.ref b :: As) h (nd_Kc g mm d mc ms K X pc 3 lv rest (cs + mc2) (ss + ms2))) : nd_W g mm d mc ms K X pc lv st h cs ss := by
  obtain ⟨y, cc2, L2, r2, h2⟩ := mm2
  dsimp only at hh
  subst hh
  intro H ls locs hl hR hS
  subst hst
  refine nd_go3 (a9 := ((.ref b :: As).map (nd_v g)).toArray) (mc' := mc2) (ms' := ms2) (st := rest) hl hS ?_
  exact vx_runV (As := As.map (nd_v g)) (nd_fix hC) hM (cwV n hC.hts hG rfl rfl rfl hy (nd_roomR hdep hL)) (nd_preV hC hR hb hc) rfl (by rw [List.length_map]; exact hn) (by rw [hl.1]) (by show List.map (nd_v g) _ = _; rw [List.map_append, List.map_reverse]; try rfl) (lv_room (by rw [nd_cn_sum hC.ok]; exact hrest)) hd ⟨hcs, hss⟩
theorem nd_callVX (hC : nd_Cx g mm X) {mm2 : nd_Mt} {index n d2 mc2 ms2 : Nat} {As rest : List Value} {b : Nat} {hh0 : List (Nat × Nat × Nat × Nat)} (hh : mm2.2.2.2.2 = some hh0) {C : String} {ci : Nat} {fs : List Value} {T : u_T} {N : Nat} (hG : GoodIn lw_all (wsV mm.1.cls index C mm2.1 (wsW_ mm2.1 mm2.2.1 mm2.2.2.1 mm2.2.2.2.1 hh0))) (hy : mm2.1.cls = C ∧ mm2.1.cls ≠ "java/lang/invoke/MethodHandle" ∧ mm2.1.cls ≠ "java/lang/invoke/VarHandle" ∧ (parseMethodDescriptor mm2.1.desc).map (fun d => d.parameters.length) = some n) (hb : h[b]? = some (.inr (ci, fs))) (hc : nd_cl[ci]? = some (C, T, N)) (hL : mm2.2.2.1 ≤ 45) (hdep : d2 + 1 ≤ d) (hn : As.length = n) (hrest : (rest.map nd_cn).sum ≤ 8) (hcs : cs + mc2 ≤ mc) (hss : ss + ms2 ≤ ms) (hd : decode mm.2.1 pc = .ok (.invokevirtual index, 3)) (hst : st = As.reverse ++ .ref b :: rest) (hM : nd_M g mm2 d2 mc2 ms2 (.ref b :: As) h (nd_Kc g mm d mc ms K X pc 3 lv rest (cs + mc2) (ss + ms2))) : nd_W g mm d mc ms K X pc lv st h cs ss := by
  obtain ⟨y, cc2, L2, r2, h2⟩ := mm2
  dsimp only at hh
  subst hh
  intro H ls locs hl hR hS
  subst hst
  refine nd_go3 (a9 := ((.ref b :: As).map (nd_v g)).toArray) (mc' := mc2) (ms' := ms2) (st := rest) hl hS ?_
  exact vx_runVX (As := As.map (nd_v g)) (nd_fix hC) hM (vx_cwVW n hC.hts hG rfl rfl rfl hy (nd_roomR hdep hL)) (nd_preV hC hR hb hc) rfl (by rw [List.length_map]; exact hn) (by rw [hl.1]) (by show List.map (nd_v g) _ = _; rw [List.map_append, List.map_reverse]; try rfl) (lv_room (by rw [nd_cn_sum hC.ok]; exact hrest)) hd ⟨hcs, hss⟩
theorem nd_callS (hC : nd_Cx g mm X) {mm2 : nd_Mt} {index n d2 mc2 ms2 : Nat} {As rest : List Value} (hh : mm2.2.2.2.2 = none) (hG : GoodIn lw_all (va_wsS mm.1.cls index mm2.1 (ws_ mm2.1 mm2.2.1 mm2.2.2.1 mm2.2.2.2.1))) (hy : mm2.1.cls ≠ "java/lang/invoke/MethodHandle" ∧ mm2.1.cls ≠ "java/lang/invoke/VarHandle" ∧ (parseMethodDescriptor mm2.1.desc).map (fun d => d.parameters.length) = some n) (hL : mm2.2.2.1 ≤ 45) (hdep : d2 + 1 ≤ d) (hn : As.length = n) (hrest : (rest.map nd_cn).sum ≤ 8) (hcs : cs + mc2 ≤ mc) (hss : ss + ms2 ≤ ms) (hd : decode mm.2.1 pc = .ok (.invokestatic index, 3)) (hst : st = As.reverse ++ rest) (hM : nd_M g mm2 d2 mc2 ms2 As h (nd_Kc g mm d mc ms K X pc 3 lv rest (cs + mc2) (ss + ms2))) : nd_W g mm d mc ms K X pc lv st h cs ss := by
  obtain ⟨y, cc2, L2, r2, h2⟩ := mm2
  dsimp only at hh
  subst hh
  intro H ls locs hl hR hS
  subst hst
  refine nd_go3 (a9 := (As.map (nd_v g)).toArray) (mc' := mc2) (ms' := ms2) (st := rest) hl hS ?_
  exact vx_runS (As := As.map (nd_v g)) (nd_fix hC) hM (va_cwS n hC.hts hG rfl rfl rfl hy (nd_roomR hdep hL)) (nd_preS hC hR) rfl (by rw [List.length_map]; exact hn) (by rw [hl.1]) (by show List.map (nd_v g) _ = _; rw [List.map_append, List.map_reverse]; try rfl) (lv_room (by rw [nd_cn_sum hC.ok]; exact hrest)) hd ⟨hcs, hss⟩
theorem nd_callSX (hC : nd_Cx g mm X) {mm2 : nd_Mt} {index n d2 mc2 ms2 : Nat} {As rest : List Value} {hh0 : List (Nat × Nat × Nat × Nat)} (hh : mm2.2.2.2.2 = some hh0) (hG : GoodIn lw_all (va_wsS mm.1.cls index mm2.1 (wsW_ mm2.1 mm2.2.1 mm2.2.2.1 mm2.2.2.2.1 hh0))) (hy : mm2.1.cls ≠ "java/lang/invoke/MethodHandle" ∧ mm2.1.cls ≠ "java/lang/invoke/VarHandle" ∧ (parseMethodDescriptor mm2.1.desc).map (fun d => d.parameters.length) = some n) (hL : mm2.2.2.1 ≤ 45) (hdep : d2 + 1 ≤ d) (hn : As.length = n) (hrest : (rest.map nd_cn).sum ≤ 8) (hcs : cs + mc2 ≤ mc) (hss : ss + ms2 ≤ ms) (hd : decode mm.2.1 pc = .ok (.invokestatic index, 3)) (hst : st = As.reverse ++ rest) (hM : nd_M g mm2 d2 mc2 ms2 As h (nd_Kc g mm d mc ms K X pc 3 lv rest (cs + mc2) (ss + ms2))) : nd_W g mm d mc ms K X pc lv st h cs ss := by
  obtain ⟨y, cc2, L2, r2, h2⟩ := mm2
  dsimp only at hh
  subst hh
  intro H ls locs hl hR hS
  subst hst
  refine nd_go3 (a9 := (As.map (nd_v g)).toArray) (mc' := mc2) (ms' := ms2) (st := rest) hl hS ?_
  exact vx_runSX (As := As.map (nd_v g)) (nd_fix hC) hM (vx_cwSW n hC.hts hG rfl rfl rfl hy (nd_roomR hdep hL)) (nd_preS hC hR) rfl (by rw [List.length_map]; exact hn) (by rw [hl.1]) (by show List.map (nd_v g) _ = _; rw [List.map_append, List.map_reverse]; try rfl) (lv_room (by rw [nd_cn_sum hC.ok]; exact hrest)) hd ⟨hcs, hss⟩
theorem nd_callI (hC : nd_Cx g mm X) {mm2 : nd_Mt} {index n d2 mc2 ms2 : Nat} {As rest : List Value} {b : Nat} (hh : mm2.2.2.2.2 = none) (hr0 : mm2.2.2.2.1 = none) (hw : Cond.code mm2.1 mm2.2.1 mm2.2.2.1 none ∈ lw_all) (hini : Cond.initialized mm2.1.cls ∈ lw_all) (hlk : Cond.methodLink mm.1.cls index mm2.1 ∈ lw_all) (hin : Cond.instanceMethod mm2.1 ∈ lw_all) (hnm : mm2.1.name = "<init>") (hy : mm2.1.cls ≠ "java/lang/invoke/MethodHandle" ∧ mm2.1.cls ≠ "java/lang/invoke/VarHandle" ∧ (parseMethodDescriptor mm2.1.desc).map (fun d => d.parameters.length) = some n) (hL : mm2.2.2.1 ≤ 45) (hdep : d2 + 1 ≤ d) (hn : As.length = n) (hrest : (rest.map nd_cn).sum ≤ 8) (hcs : cs + mc2 ≤ mc) (hss : ss + ms2 ≤ ms) (hd : decode mm.2.1 pc = .ok (.invokespecial index, 3)) (hst : st = As.reverse ++ .ref b :: rest) (hM : nd_M g mm2 d2 mc2 ms2 (.ref b :: As) h (nd_Kc g mm d mc ms K X pc 3 lv rest (cs + mc2) (ss + ms2))) : nd_W g mm d mc ms K X pc lv st h cs ss := by
  obtain ⟨y, cc2, L2, r2, h2⟩ := mm2
  dsimp only at hh
  subst hh
  intro H ls locs hl hR hS
  subst hst
  refine nd_go3 (a9 := ((.ref b :: As).map (nd_v g)).toArray) (mc' := mc2) (ms' := ms2) (st := rest) hl hS ?_
  exact by dsimp only at hr0; subst hr0; exact vx_runI (As := As.map (nd_v g)) (nd_fix hC) hM (cwI n hC.hts (lw_meth hw) rfl rfl rfl (hC.hts _ hini) (hC.hts _ hlk) (hC.hts _ hin) hnm hy (nd_roomR hdep hL)) (nd_preS (As := .ref b :: As) hC hR) rfl (by rw [List.length_map]; exact hn) (by rw [hl.1]) (by show List.map (nd_v g) _ = _; rw [List.map_append, List.map_reverse]; try rfl) (lv_room (by rw [nd_cn_sum hC.ok]; exact hrest)) hd ⟨hcs, hss⟩
theorem nd_callIN (hC : nd_Cx g mm X) {mm2 : nd_Mt} {index n d2 mc2 ms2 : Nat} {As rest : List Value} {b : Nat} (hh : mm2.2.2.2.2 = none) {host : String} (hr0 : mm2.2.2.2.1 = none) (hw : Cond.code mm2.1 mm2.2.1 mm2.2.2.1 none ∈ lw_all) (hini : Cond.initialized mm2.1.cls ∈ lw_all) (hlk : Cond.methodLinkNest mm.1.cls index mm2.1 host ∈ lw_tbl) (hin : Cond.instanceMethod mm2.1 ∈ lw_all) (hnm : mm2.1.name = "<init>") (hy : mm2.1.cls ≠ "java/lang/invoke/MethodHandle" ∧ mm2.1.cls ≠ "java/lang/invoke/VarHandle" ∧ (parseMethodDescriptor mm2.1.desc).map (fun d => d.parameters.length) = some n) (hL : mm2.2.2.1 ≤ 45) (hdep : d2 + 1 ≤ d) (hn : As.length = n) (hrest : (rest.map nd_cn).sum ≤ 8) (hcs : cs + mc2 ≤ mc) (hss : ss + ms2 ≤ ms) (hd : decode mm.2.1 pc = .ok (.invokespecial index, 3)) (hst : st = As.reverse ++ .ref b :: rest) (hM : nd_M g mm2 d2 mc2 ms2 (.ref b :: As) h (nd_Kc g mm d mc ms K X pc 3 lv rest (cs + mc2) (ss + ms2))) : nd_W g mm d mc ms K X pc lv st h cs ss := by
  obtain ⟨y, cc2, L2, r2, h2⟩ := mm2
  dsimp only at hh
  subst hh
  intro H ls locs hl hR hS
  subst hst
  refine nd_go3 (a9 := ((.ref b :: As).map (nd_v g)).toArray) (mc' := mc2) (ms' := ms2) (st := rest) hl hS ?_
  exact by dsimp only at hr0; subst hr0; exact vx_runIN (As := As.map (nd_v g)) (nd_fix hC) hM ⟨va_cnB n hC.hts (lw_meth hw) rfl rfl rfl (hC.amb.2.1 _ (List.mem_filter.mpr ⟨hlk, rfl⟩)) (hC.hts _ hini) hy (nd_roomR hdep hL), hnm, hC.hts _ hin⟩ (nd_preS (As := .ref b :: As) hC hR) rfl (by rw [List.length_map]; exact hn) (by rw [hl.1]) (by show List.map (nd_v g) _ = _; rw [List.map_append, List.map_reverse]; try rfl) (lv_room (by rw [nd_cn_sum hC.ok]; exact hrest)) hd ⟨hcs, hss⟩
theorem nd_callVN (hC : nd_Cx g mm X) {mm2 : nd_Mt} {index n d2 mc2 ms2 : Nat} {As rest : List Value} {b : Nat} (hh : mm2.2.2.2.2 = none) {host C : String} {ci : Nat} {fs : List Value} {T : u_T} {N : Nat} (hw : Cond.code mm2.1 mm2.2.1 mm2.2.2.1 mm2.2.2.2.1 ∈ lw_all) (hini : Cond.initialized mm2.1.cls ∈ lw_all) (hlk : Cond.methodLinkNest mm.1.cls index mm2.1 host ∈ lw_tbl) (hin : Cond.instanceMethod mm2.1 ∈ lw_all) (hsel : Cond.selects C mm2.1 mm2.1 ∈ lw_all) (hy : mm2.1.cls ≠ "java/lang/invoke/MethodHandle" ∧ mm2.1.cls ≠ "java/lang/invoke/VarHandle" ∧ (parseMethodDescriptor mm2.1.desc).map (fun d => d.parameters.length) = some n) (hb : h[b]? = some (.inr (ci, fs))) (hc : nd_cl[ci]? = some (C, T, N)) (hL : mm2.2.2.1 ≤ 45) (hdep : d2 + 1 ≤ d) (hn : As.length = n) (hrest : (rest.map nd_cn).sum ≤ 8) (hcs : cs + mc2 ≤ mc) (hss : ss + ms2 ≤ ms) (hd : decode mm.2.1 pc = .ok (.invokevirtual index, 3)) (hst : st = As.reverse ++ .ref b :: rest) (hM : nd_M g mm2 d2 mc2 ms2 (.ref b :: As) h (nd_Kc g mm d mc ms K X pc 3 lv rest (cs + mc2) (ss + ms2))) : nd_W g mm d mc ms K X pc lv st h cs ss := by
  obtain ⟨y, cc2, L2, r2, h2⟩ := mm2
  dsimp only at hh
  subst hh
  intro H ls locs hl hR hS
  subst hst
  refine nd_go3 (a9 := ((.ref b :: As).map (nd_v g)).toArray) (mc' := mc2) (ms' := ms2) (st := rest) hl hS ?_
  exact vx_runVN (As := As.map (nd_v g)) (nd_fix hC) hM ⟨va_cnB n hC.hts (lw_meth hw) rfl rfl rfl (hC.amb.2.1 _ (List.mem_filter.mpr ⟨hlk, rfl⟩)) (hC.hts _ hini) hy (nd_roomR hdep hL), hC.hts _ hin, hC.hts _ hsel⟩ (nd_preV hC hR hb hc) rfl (by rw [List.length_map]; exact hn) (by rw [hl.1]) (by show List.map (nd_v g) _ = _; rw [List.map_append, List.map_reverse]; try rfl) (lv_room (by rw [nd_cn_sum hC.ok]; exact hrest)) hd ⟨hcs, hss⟩
theorem nd_callSN (hC : nd_Cx g mm X) {mm2 : nd_Mt} {index n d2 mc2 ms2 : Nat} {As rest : List Value} (hh : mm2.2.2.2.2 = none) {host : String} (hw : Cond.code mm2.1 mm2.2.1 mm2.2.2.1 mm2.2.2.2.1 ∈ lw_all) (hini : Cond.initialized mm2.1.cls ∈ lw_all) (hlk : Cond.methodLinkNest mm.1.cls index mm2.1 host ∈ lw_tbl) (hsta : Cond.static mm2.1 ∈ lw_all) (hy : mm2.1.cls ≠ "java/lang/invoke/MethodHandle" ∧ mm2.1.cls ≠ "java/lang/invoke/VarHandle" ∧ (parseMethodDescriptor mm2.1.desc).map (fun d => d.parameters.length) = some n) (hL : mm2.2.2.1 ≤ 45) (hdep : d2 + 1 ≤ d) (hn : As.length = n) (hrest : (rest.map nd_cn).sum ≤ 8) (hcs : cs + mc2 ≤ mc) (hss : ss + ms2 ≤ ms) (hd : decode mm.2.1 pc = .ok (.invokestatic index, 3)) (hst : st = As.reverse ++ rest) (hM : nd_M g mm2 d2 mc2 ms2 As h (nd_Kc g mm d mc ms K X pc 3 lv rest (cs + mc2) (ss + ms2))) : nd_W g mm d mc ms K X pc lv st h cs ss := by
  obtain ⟨y, cc2, L2, r2, h2⟩ := mm2
  dsimp only at hh
  subst hh
  intro H ls locs hl hR hS
  subst hst
  refine nd_go3 (a9 := (As.map (nd_v g)).toArray) (mc' := mc2) (ms' := ms2) (st := rest) hl hS ?_
  exact vx_runSN (As := As.map (nd_v g)) (nd_fix hC) hM ⟨va_cnB n hC.hts (lw_meth hw) rfl rfl rfl (hC.amb.2.1 _ (List.mem_filter.mpr ⟨hlk, rfl⟩)) (hC.hts _ hini) hy (nd_roomR hdep hL), hC.hts _ hsta, trivial⟩ (nd_preS hC hR) rfl (by rw [List.length_map]; exact hn) (by rw [hl.1]) (by show List.map (nd_v g) _ = _; rw [List.map_append, List.map_reverse]; try rfl) (lv_room (by rw [nd_cn_sum hC.ok]; exact hrest)) hd ⟨hcs, hss⟩
theorem nd_callU (hC : nd_Cx g mm X) {mm2 : nd_Mt} {index n d2 mc2 ms2 : Nat} {As rest : List Value} {b : Nat} (hh : mm2.2.2.2.2 = none) {C owner : String} {x : MethodName} {ci : Nat} {fs : List Value} {T : u_T} {N : Nat} (cw : va_CU (nd_rm d mc ms) X.2.2.1 X.2.2.2.2.1 mm.1.cls C owner index x mm2.1 mm2.2.1 mm2.2.2.1 mm2.2.2.2.1 (ws_ mm2.1 mm2.2.1 mm2.2.2.1 mm2.2.2.2.1) (nd_rm d2 mc2 ms2) mc2 ms2 n) (hb : h[b]? = some (.inr (ci, fs))) (hc : nd_cl[ci]? = some (C, T, N)) (hL : mm2.2.2.1 ≤ 45) (hdep : d2 + 1 ≤ d) (hn : As.length = n) (hrest : (rest.map nd_cn).sum ≤ 8) (hcs : cs + mc2 ≤ mc) (hss : ss + ms2 ≤ ms) (hd : decode mm.2.1 pc = .ok (.invokevirtual index, 3)) (hst : st = As.reverse ++ .ref b :: rest) (hM : nd_M g mm2 d2 mc2 ms2 (.ref b :: As) h (nd_Kc g mm d mc ms K X pc 3 lv rest (cs + mc2) (ss + ms2))) : nd_W g mm d mc ms K X pc lv st h cs ss := by
  obtain ⟨y, cc2, L2, r2, h2⟩ := mm2
  dsimp only at hh
  subst hh
  intro H ls locs hl hR hS
  subst hst
  refine nd_go3 (a9 := ((.ref b :: As).map (nd_v g)).toArray) (mc' := mc2) (ms' := ms2) (st := rest) hl hS ?_
  exact vx_runU (As := As.map (nd_v g)) (nd_fix hC) hM cw (nd_preV hC hR hb hc) rfl (by rw [List.length_map]; exact hn) (by rw [hl.1]) (by show List.map (nd_v g) _ = _; rw [List.map_append, List.map_reverse]; try rfl) (lv_room (by rw [nd_cn_sum hC.ok]; exact hrest)) hd ⟨hcs, hss⟩
theorem nd_callSU (hC : nd_Cx g mm X) {mm2 : nd_Mt} {index n d2 mc2 ms2 : Nat} {As rest : List Value} {b : Nat} (hh : mm2.2.2.2.2 = none) {C : String} {ci : Nat} {fs : List Value} {T : u_T} {N : Nat} (hG : GoodIn lw_all (va_wsSU mm.1.cls index mm2.1 (ws_ mm2.1 mm2.2.1 mm2.2.2.1 mm2.2.2.2.1))) (hy : mm2.1.name ≠ "<init>" ∧ (parseMethodDescriptor mm2.1.desc).map (fun d => d.parameters.length) = some n) (hb : h[b]? = some (.inr (ci, fs))) (hc : nd_cl[ci]? = some (C, T, N)) (hL : mm2.2.2.1 ≤ 45) (hdep : d2 + 1 ≤ d) (hn : As.length = n) (hrest : (rest.map nd_cn).sum ≤ 8) (hcs : cs + mc2 ≤ mc) (hss : ss + ms2 ≤ ms) (hd : decode mm.2.1 pc = .ok (.invokespecial index, 3)) (hst : st = As.reverse ++ .ref b :: rest) (hM : nd_M g mm2 d2 mc2 ms2 (.ref b :: As) h (nd_Kc g mm d mc ms K X pc 3 lv rest (cs + mc2) (ss + ms2))) : nd_W g mm d mc ms K X pc lv st h cs ss := by
  obtain ⟨y, cc2, L2, r2, h2⟩ := mm2
  dsimp only at hh
  subst hh
  intro H ls locs hl hR hS
  subst hst
  refine nd_go3 (a9 := ((.ref b :: As).map (nd_v g)).toArray) (mc' := mc2) (ms' := ms2) (st := rest) hl hS ?_
  exact vx_runSU (As := As.map (nd_v g)) (hC.amb.1.1 ci _ hc).2 (nd_fix hC) hM (va_cwSU n hC.hts hG rfl rfl rfl hy (nd_roomR hdep hL)) (nd_preV hC hR hb hc) rfl (by rw [List.length_map]; exact hn) (by rw [hl.1]) (by show List.map (nd_v g) _ = _; rw [List.map_append, List.map_reverse]; try rfl) (lv_room (by rw [nd_cn_sum hC.ok]; exact hrest)) hd ⟨hcs, hss⟩
theorem nd_callF (hC : nd_Cx g mm X) {mm2 : nd_Mt} {index n d2 mc2 ms2 : Nat} {As rest : List Value} {b : Nat} (hh : mm2.2.2.2.2 = none) {C : String} {x : MethodName} {ci count : Nat} {fs : List Value} {T : u_T} {N : Nat} (hG : GoodIn lw_all (va_wsF mm.1.cls index C x mm2.1 (ws_ mm2.1 mm2.2.1 mm2.2.2.1 mm2.2.2.2.1))) (hF : va_Fw C x mm2.1 (nd_s g)) (hy : x.cls ≠ "java/lang/invoke/MethodHandle" ∧ x.cls ≠ "java/lang/invoke/VarHandle" ∧ (parseMethodDescriptor x.desc).map (fun d => d.parameters.length) = some n) (hb : h[b]? = some (.inr (ci, fs))) (hc : nd_cl[ci]? = some (C, T, N)) (hL : mm2.2.2.1 ≤ 45) (hdep : d2 + 1 ≤ d) (hn : As.length = n) (hrest : (rest.map nd_cn).sum ≤ 8) (hcs : cs + mc2 ≤ mc) (hss : ss + ms2 ≤ ms) (hd : decode mm.2.1 pc = .ok (.invokeinterface index count, 5)) (hst : st = As.reverse ++ .ref b :: rest) (hM : nd_M g mm2 d2 mc2 ms2 (.ref b :: As) h (nd_Kc g mm d mc ms K X pc 5 lv rest (cs + mc2) (ss + ms2))) : nd_W g mm d mc ms K X pc lv st h cs ss := by
  obtain ⟨y, cc2, L2, r2, h2⟩ := mm2
  dsimp only at hh
  subst hh
  intro H ls locs hl hR hS
  subst hst
  refine nd_go5 (a9 := ((.ref b :: As).map (nd_v g)).toArray) (mc' := mc2) (ms' := ms2) (st := rest) hl hS ?_
  exact vx_runF (As := As.map (nd_v g)) (hC.amb.1.1 ci _ hc).2 (nd_fix hC) hM (va_cwF n hC.hts hG rfl rfl rfl (hF.moved ⟨hy.1, hy.2.1⟩ hC.amb.2.2.1) hy (nd_roomR hdep hL)) (nd_preV hC hR hb hc) rfl (by rw [List.length_map]; exact hn) (by rw [hl.1]) (by show List.map (nd_v g) _ = _; rw [List.map_append, List.map_reverse]; try rfl) (lv_room (by rw [nd_cn_sum hC.ok]; exact hrest)) hd ⟨hcs, hss⟩
/-- Object's constructor -/
theorem nd_objInit (hC : nd_Cx g mm X) {idx b : Nat} (h1 : Cond.methodLink mm.1.cls idx Lib.objectInit ∈ lw_all) (h2 : Cond.instanceMethod Lib.objectInit ∈ lw_all) (h3 : Cond.code Lib.objectInit ⟨#[0xb1]⟩ 1 none ∈ lw_all) (hrest : (st.map nd_cn).sum ≤ 8) (hd : decode mm.2.1 pc = .ok (.invokespecial idx, 3)) (k : nd_W g mm d mc ms K X (pc + 3) lv st h cs ss) : nd_W g mm d mc ms K X pc lv (.ref b :: st) h cs ss := by
  intro H ls locs hl hR hS
  refine W.objInit hC.1 hC.2.1 hC.own (hC.hts _ h1) (hC.hts _ h2) (hC.hts _ h3) rfl (by rw [hC.ml]; exact hl.1) rfl hd (by show 1 ≤ d + 20; omega) ?_ (k H ls locs hl hR hS)
  have h9 := lv_room (m := X.2.2.2.1) (pc := pc) (ls := ls) (rest := List.map (nd_v g) (Value.ref b :: st)) (st := st.map (nd_v g)) (by rw [nd_cn_sum hC.ok]; exact hrest)
  show _ ≤ 64 * d + 10300
  omega
/-- no handler here: the throw leaves the method -/
theorem nd_out (hC : nd_Cx g mm X) {E : String} {k0 : Nat} (hh : mm.2.2.2.2 = none) (h1 : cs ≤ mc) (h2 : ss ≤ ms) (hK : K (.inr (E, k0)) h) : nd_T g mm d mc ms K X pc lv E k0 h cs ss := by
  intro H ls locs rest ce hl hR hS hcell hvm hcl
  have ht := hC.2.2.2.2.2.2.2.2.2.2.2
  rw [hh] at ht
  exact vx_out (fun x hx => (ht x hx).elim) hC.locks hcell hvm hcl (fun t ht2 hA => ⟨⟨k0, h, rfl, hK, by rw [ht2]; exact hR⟩, hS.F ht2⟩) hS.2.2 h1 h2
end NDC
