set_option maxRecDepth 100000
theorem nd_toNat {i : Int32} {j : Nat} (h : i.toInt = (j : Int)) : i.toNatClampNeg = j := by
  show i.toInt.toNat = j
  rw [h]; exact Int.toNat_natCast j
theorem nd_inn {i : Int32} {j n : Nat} (h : i.toInt = (j : Int)) (hj : j < n) : vp_in i n := vp_in_iff.mpr ⟨by omega, by omega⟩
theorem nd_tys_at {g : nd_G} {k : Nat} {t : FieldType} (h : nd_ty[k]? = some t) : (nd_tys g)[k]? = some (nd_tc g k, t) := by
  rw [nd_tys, List.getElem?_mapIdx, h]; rfl
section NDH
variable {g : nd_G} {mm : nd_Mt} {d mc ms : Nat} {K : nd_K} {X : nd_X} {pc : Nat} {lv : List (Option Value)} {st : List Value} {h : nd_H} {cs ss : Nat}
theorem nd_Cx.ml (h : nd_Cx g mm X) : X.2.2.2.2.2.2.2.maxLocals = mm.2.2.1 := h.2.2.2.1
theorem nd_Cx.own (h : nd_Cx g mm X) : X.2.2.1.vm.findClass mm.1.cls = some X.2.2.2.1.cls := h.2.2.2.2.1
theorem nd_Cx.hts (h : nd_Cx g mm X) : ∀ w ∈ lw_all, w.before X.2.2.2.2.1 X.2.2.1 = true := h.2.2.2.2.2.1
theorem nd_Cx.locks (h : nd_Cx g mm X) : X.2.2.2.2.2.2.1.locks = false := h.2.2.2.2.2.2.1
theorem nd_Cx.amb (h : nd_Cx g mm X) : nd_Amb g X.2.2.1 := h.2.2.2.2.2.2.2.1
theorem nd_Cx.ok (h : nd_Cx g mm X) : nd_OK g := h.2.2.2.2.2.2.2.2.1
theorem nd_Cx.z (h : nd_Cx g mm X) : nd_z g ≤ X.2.2.1.heap.size := h.2.2.2.2.2.2.2.2.2.1
theorem nd_Cx.nm (h : nd_Cx g mm X) : X.2.2.2.2.2.2.1.name = mm.1.name := h.2.2.2.2.2.2.2.2.2.2.1
theorem nd_aof (hC : nd_Cx g mm X) {k : Nat} {t : FieldType} (ht : nd_ty[k]? = some t) : ArrOfT X.2.2.1 (nd_tc g k) t := (hC.amb.1.2 k _ (nd_tys_at ht)).1
theorem nd_ara (hC : nd_Cx g mm X) {k : Nat} {t : FieldType} (ht : nd_ty[k]? = some t) : va_RA X.2.2.1 (nd_tc g k) t := (hC.amb.1.2 k _ (nd_tys_at ht)).2
theorem nd_iaload (hC : nd_Cx g mm X) {b n : Nat} {f : Nat → Int32} {i : Int32} {j : Nat} (hb : h[b]? = some (.inl (0, n, .inl f))) (hij : i.toInt = (j : Int)) (hj : j < n) (hd : decode mm.2.1 pc = .ok (.iaload, 1)) (k : nd_W g mm d mc ms K X (pc + 1) lv (.int (f j) :: st) h cs ss) : nd_W g mm d mc ms K X pc lv (.int i :: .ref b :: st) h cs ss := by
  intro H ls locs hl hR hS
  have hin := nd_inn hij hj
  have e := nd_toNat hij
  refine W.iald (v := .int (f j)) hC.1 hC.2.1 (hR.2.2 b _ hb) (nd_aof hC (k := 0) rfl n (fun j => .int (f j))) (fun q => by cases q) (by show ¬ (i < 0 ∨ (arrV _ _ _).slots.size ≤ _); rw [arrV_size]; exact hin) (by show (arrV _ _ _).slots[_]? = _; rw [e, arrV_read _ _ hj]) rfl rfl hd (k H ls locs hl hR hS)
theorem nd_baload (hC : nd_Cx g mm X) {b n : Nat} {f : Nat → Int32} {i : Int32} {j : Nat} (hb : h[b]? = some (.inl (2, n, .inl f))) (hij : i.toInt = (j : Int)) (hj : j < n) (hd : decode mm.2.1 pc = .ok (.baload, 1)) (k : nd_W g mm d mc ms K X (pc + 1) lv (.int (f j) :: st) h cs ss) : nd_W g mm d mc ms K X pc lv (.int i :: .ref b :: st) h cs ss := by
  intro H ls locs hl hR hS
  have hin := nd_inn hij hj
  have e := nd_toNat hij
  refine W.bald (v := .int (f j)) hC.1 hC.2.1 (hR.2.2 b _ hb) (nd_aof hC (k := 2) rfl n (fun j => .int (f j))) (fun q => by cases q) (by show ¬ (i < 0 ∨ (arrV _ _ _).slots.size ≤ _); rw [arrV_size]; exact hin) (by show (arrV _ _ _).slots[_]? = _; rw [e, arrV_read _ _ hj]) rfl rfl hd (k H ls locs hl hR hS)
theorem nd_zaload (hC : nd_Cx g mm X) {b n : Nat} {f : Nat → Int32} {i : Int32} {j : Nat} (hb : h[b]? = some (.inl (4, n, .inl f))) (hij : i.toInt = (j : Int)) (hj : j < n) (hd : decode mm.2.1 pc = .ok (.baload, 1)) (k : nd_W g mm d mc ms K X (pc + 1) lv (.int (f j) :: st) h cs ss) : nd_W g mm d mc ms K X pc lv (.int i :: .ref b :: st) h cs ss := by
  intro H ls locs hl hR hS
  have hin := nd_inn hij hj
  have e := nd_toNat hij
  refine W.zald (v := .int (f j)) hC.1 hC.2.1 (hR.2.2 b _ hb) (nd_aof hC (k := 4) rfl n (fun j => .int (f j))) (fun q => by cases q) (by show ¬ (i < 0 ∨ (arrV _ _ _).slots.size ≤ _); rw [arrV_size]; exact hin) (by show (arrV _ _ _).slots[_]? = _; rw [e, arrV_read _ _ hj]) rfl rfl hd (k H ls locs hl hR hS)
theorem nd_saload (hC : nd_Cx g mm X) {b n : Nat} {f : Nat → Int32} {i : Int32} {j : Nat} (hb : h[b]? = some (.inl (3, n, .inl f))) (hij : i.toInt = (j : Int)) (hj : j < n) (hd : decode mm.2.1 pc = .ok (.saload, 1)) (k : nd_W g mm d mc ms K X (pc + 1) lv (.int (f j) :: st) h cs ss) : nd_W g mm d mc ms K X pc lv (.int i :: .ref b :: st) h cs ss := by
  intro H ls locs hl hR hS
  have hin := nd_inn hij hj
  have e := nd_toNat hij
  refine W.sald (v := .int (f j)) hC.1 hC.2.1 (hR.2.2 b _ hb) (nd_aof hC (k := 3) rfl n (fun j => .int (f j))) (fun q => by cases q) (by show ¬ (i < 0 ∨ (arrV _ _ _).slots.size ≤ _); rw [arrV_size]; exact hin) (by show (arrV _ _ _).slots[_]? = _; rw [e, arrV_read _ _ hj]) rfl rfl hd (k H ls locs hl hR hS)
theorem nd_laload (hC : nd_Cx g mm X) {b n : Nat} {f : Nat → Int64} {i : Int32} {j : Nat} (hb : h[b]? = some (.inl (1, n, .inr (.inl f)))) (hij : i.toInt = (j : Int)) (hj : j < n) (hd : decode mm.2.1 pc = .ok (.laload, 1)) (k : nd_W g mm d mc ms K X (pc + 1) lv (.long (f j) :: st) h cs ss) : nd_W g mm d mc ms K X pc lv (.int i :: .ref b :: st) h cs ss := by
  intro H ls locs hl hR hS
  have hin := nd_inn hij hj
  have e := nd_toNat hij
  refine W.lald (v := .long (f j)) hC.1 hC.2.1 (hR.2.2 b _ hb) (nd_aof hC (k := 1) rfl n (fun j => .long (f j))) (fun q => by cases q) (by show ¬ (i < 0 ∨ (arrV _ _ _).slots.size ≤ _); rw [arrV_size]; exact hin) (by show (arrV _ _ _).slots[_]? = _; rw [e, arrV_read _ _ hj]) rfl rfl hd (k H ls locs hl hR hS)
theorem nd_aaload (hC : nd_Cx g mm X) {b n ty : Nat} {t : FieldType} {f : Nat → Value} {i : Int32} {j : Nat} (ht : nd_ty[ty]? = some t) (hr : t.isReference = true) (hb : h[b]? = some (.inl (ty, n, .inr (.inr f)))) (hij : i.toInt = (j : Int)) (hj : j < n) (hd : decode mm.2.1 pc = .ok (.aaload, 1)) (k : nd_W g mm d mc ms K X (pc + 1) lv (f j :: st) h cs ss) : nd_W g mm d mc ms K X pc lv (.int i :: .ref b :: st) h cs ss := by
  intro H ls locs hl hR hS
  have hin := nd_inn hij hj
  have e := nd_toNat hij
  refine W.aald (v := nd_v g (f j)) hC.1 hC.2.1 (hR.2.2 b _ hb) (nd_aof hC ht n (fun j => nd_v g (f j))) hr (fun q => by cases q) (by show ¬ (i < 0 ∨ (arrV _ _ _).slots.size ≤ _); rw [arrV_size]; exact hin) (by show (arrV _ _ _).slots[_]? = _; rw [e, arrV_read _ _ hj]) rfl rfl hd (k H ls locs hl hR hS)
theorem nd_alen (hC : nd_Cx g mm X) {b n ty : Nat} {t : FieldType} {a : nd_A} (ht : nd_ty[ty]? = some t) (hb : h[b]? = some (.inl (ty, n, a))) (hd : decode mm.2.1 pc = .ok (.arraylength, 1)) (k : nd_W g mm d mc ms K X (pc + 1) lv (.int (nI n) :: st) h cs ss) : nd_W g mm d mc ms K X pc lv (.ref b :: st) h cs ss := by
  intro H ls locs hl hR hS
  have k1 := k H ls locs hl hR hS
  have h1 := hR.2.2 b _ hb
  obtain f | f | f := a
  · exact W.alen (n := nI n) hC.1 hC.2.1 h1 (nd_aof hC ht n (fun j => .int (f j))) (by show (arrV _ _ _).slots.size.toInt32 = _; rw [arrV_size]; rfl) rfl rfl hd k1
  · exact W.alen (n := nI n) hC.1 hC.2.1 h1 (nd_aof hC ht n (fun j => .long (f j))) (by show (arrV _ _ _).slots.size.toInt32 = _; rw [arrV_size]; rfl) rfl rfl hd k1
  · exact W.alen (n := nI n) hC.1 hC.2.1 h1 (nd_aof hC ht n (fun j => nd_v g (f j))) (by show (arrV _ _ _).slots.size.toInt32 = _; rw [arrV_size]; rfl) rfl rfl hd k1
theorem nd_iastore (hC : nd_Cx g mm X) {b n : Nat} {f : Nat → Int32} {i : Int32} {x : Int32} {j : Nat} (hb : h[b]? = some (.inl (0, n, .inl f))) (hij : i.toInt = (j : Int)) (hj : j < n) (hd : decode mm.2.1 pc = .ok (.iastore, 1)) (k : nd_W g mm d mc ms K X (pc + 1) lv st (h.set b (.inl (0, n, .inl (upd f j x)))) cs ss) : nd_W g mm d mc ms K X pc lv (.int x :: .int i :: .ref b :: st) h cs ss := by
  intro H ls locs hl hR hS
  have hin := nd_inn hij hj
  have e9 := nd_toNat hij
  refine W.iast hC.1 hC.2.1 (hR.2.2 b _ hb) (nd_aof hC (k := 0) rfl n (fun j => .int (f j))) (fun q => by cases q) (by show ¬ (i < 0 ∨ (arrV _ _ _).slots.size ≤ _); rw [arrV_size]; exact hin) rfl rfl hd fun H1 e z oq => ?_
  refine k H1 ls _ hl (hR.set z oq ?_) (nd_S.put hS z oq)
  show H1[nd_z g + b]? = some (arrV (nd_tc g 0) n (fun q => .int ((upd f j x) q)))
  rw [e]
  show some ((arrV (nd_tc g 0) n (fun q => .int (f q))).setSlot _ _) = _
  rw [arrV_store, e9]
  congr 2
  funext q
  by_cases hq : q = j
  · subst hq
    simp [updV, upd]
    try rfl
  · simp [updV, upd, hq]
theorem nd_bastore (hC : nd_Cx g mm X) {b n : Nat} {f : Nat → Int32} {i : Int32} {x : Int32} {j : Nat} (hb : h[b]? = some (.inl (2, n, .inl f))) (hij : i.toInt = (j : Int)) (hj : j < n) (hd : decode mm.2.1 pc = .ok (.bastore, 1)) (k : nd_W g mm d mc ms K X (pc + 1) lv st (h.set b (.inl (2, n, .inl (upd f j (vp_nar .byte x))))) cs ss) : nd_W g mm d mc ms K X pc lv (.int x :: .int i :: .ref b :: st) h cs ss := by
  intro H ls locs hl hR hS
  have hin := nd_inn hij hj
  have e9 := nd_toNat hij
  refine W.bast hC.1 hC.2.1 (hR.2.2 b _ hb) (nd_aof hC (k := 2) rfl n (fun j => .int (f j))) (fun q => by cases q) (by show ¬ (i < 0 ∨ (arrV _ _ _).slots.size ≤ _); rw [arrV_size]; exact hin) rfl rfl hd fun H1 e z oq => ?_
  refine k H1 ls _ hl (hR.set z oq ?_) (nd_S.put hS z oq)
  show H1[nd_z g + b]? = some (arrV (nd_tc g 2) n (fun q => .int ((upd f j (vp_nar .byte x)) q)))
  rw [e]
  show some ((arrV (nd_tc g 2) n (fun q => .int (f q))).setSlot _ _) = _
  rw [arrV_store, e9]
  congr 2
  funext q
  by_cases hq : q = j
  · subst hq
    simp [updV, upd, vp_nar]
    try rfl
  · simp [updV, upd, hq]
theorem nd_zastore (hC : nd_Cx g mm X) {b n : Nat} {f : Nat → Int32} {i : Int32} {x : Int32} {j : Nat} (hb : h[b]? = some (.inl (4, n, .inl f))) (hij : i.toInt = (j : Int)) (hj : j < n) (hd : decode mm.2.1 pc = .ok (.bastore, 1)) (k : nd_W g mm d mc ms K X (pc + 1) lv st (h.set b (.inl (4, n, .inl (upd f j (vp_nar .boolean x))))) cs ss) : nd_W g mm d mc ms K X pc lv (.int x :: .int i :: .ref b :: st) h cs ss := by
  intro H ls locs hl hR hS
  have hin := nd_inn hij hj
  have e9 := nd_toNat hij
  refine W.zast hC.1 hC.2.1 (hR.2.2 b _ hb) (nd_aof hC (k := 4) rfl n (fun j => .int (f j))) (fun q => by cases q) (by show ¬ (i < 0 ∨ (arrV _ _ _).slots.size ≤ _); rw [arrV_size]; exact hin) rfl rfl hd fun H1 e z oq => ?_
  refine k H1 ls _ hl (hR.set z oq ?_) (nd_S.put hS z oq)
  show H1[nd_z g + b]? = some (arrV (nd_tc g 4) n (fun q => .int ((upd f j (vp_nar .boolean x)) q)))
  rw [e]
  show some ((arrV (nd_tc g 4) n (fun q => .int (f q))).setSlot _ _) = _
  rw [arrV_store, e9]
  congr 2
  funext q
  by_cases hq : q = j
  · subst hq
    simp [updV, upd, vp_nar]
    try rfl
  · simp [updV, upd, hq]
theorem nd_sastore (hC : nd_Cx g mm X) {b n : Nat} {f : Nat → Int32} {i : Int32} {x : Int32} {j : Nat} (hb : h[b]? = some (.inl (3, n, .inl f))) (hij : i.toInt = (j : Int)) (hj : j < n) (hd : decode mm.2.1 pc = .ok (.sastore, 1)) (k : nd_W g mm d mc ms K X (pc + 1) lv st (h.set b (.inl (3, n, .inl (upd f j (vp_nar .short x))))) cs ss) : nd_W g mm d mc ms K X pc lv (.int x :: .int i :: .ref b :: st) h cs ss := by
  intro H ls locs hl hR hS
  have hin := nd_inn hij hj
  have e9 := nd_toNat hij
  refine W.sast hC.1 hC.2.1 (hR.2.2 b _ hb) (nd_aof hC (k := 3) rfl n (fun j => .int (f j))) (fun q => by cases q) (by show ¬ (i < 0 ∨ (arrV _ _ _).slots.size ≤ _); rw [arrV_size]; exact hin) rfl rfl hd fun H1 e z oq => ?_
  refine k H1 ls _ hl (hR.set z oq ?_) (nd_S.put hS z oq)
  show H1[nd_z g + b]? = some (arrV (nd_tc g 3) n (fun q => .int ((upd f j (vp_nar .short x)) q)))
  rw [e]
  show some ((arrV (nd_tc g 3) n (fun q => .int (f q))).setSlot _ _) = _
  rw [arrV_store, e9]
  congr 2
  funext q
  by_cases hq : q = j
  · subst hq
    simp [updV, upd, vp_nar]
    try rfl
  · simp [updV, upd, hq]
theorem nd_lastore (hC : nd_Cx g mm X) {b n : Nat} {f : Nat → Int64} {i : Int32} {x : Int64} {j : Nat} (hb : h[b]? = some (.inl (1, n, .inr (.inl f)))) (hij : i.toInt = (j : Int)) (hj : j < n) (hd : decode mm.2.1 pc = .ok (.lastore, 1)) (k : nd_W g mm d mc ms K X (pc + 1) lv st (h.set b (.inl (1, n, .inr (.inl (vp_updL f j x))))) cs ss) : nd_W g mm d mc ms K X pc lv (.long x :: .int i :: .ref b :: st) h cs ss := by
  intro H ls locs hl hR hS
  have hin := nd_inn hij hj
  have e9 := nd_toNat hij
  refine W.last hC.1 hC.2.1 (hR.2.2 b _ hb) (nd_aof hC (k := 1) rfl n (fun j => .long (f j))) (fun q => by cases q) (by show ¬ (i < 0 ∨ (arrV _ _ _).slots.size ≤ _); rw [arrV_size]; exact hin) rfl rfl hd fun H1 e z oq => ?_
  refine k H1 ls _ hl (hR.set z oq ?_) (nd_S.put hS z oq)
  show H1[nd_z g + b]? = some (arrV (nd_tc g 1) n (fun q => .long ((vp_updL f j x) q)))
  rw [e]
  show some ((arrV (nd_tc g 1) n (fun q => .long (f q))).setSlot _ _) = _
  rw [arrV_store, e9]
  congr 2
  funext q
  by_cases hq : q = j
  · subst hq
    simp [updV, vp_updL]
    try rfl
  · simp [updV, vp_updL, hq]
theorem nd_aastoreR (hC : nd_Cx g mm X) {b n ty v : Nat} {t : FieldType} {f : Nat → Value} {i : Int32} {j : Nat} (ht : nd_ty[ty]? = some t) (hr : t.isReference = true) (hb : h[b]? = some (.inl (ty, n, .inr (.inr f)))) (hij : i.toInt = (j : Int)) (hj : j < n)
    (ha : ∀ (H : Heap), nd_R g h H → ∃ (kA : Class) (comp : ClassId) (kc : Class) (cv : Cell) (kv : Class), X.2.2.1.vm.classes[nd_tc g ty]? = some kA ∧ kA.kind = .array comp t ∧ X.2.2.1.vm.classes[comp]? = some kc ∧ H[nd_z g + v]? = some cv ∧ (∀ q, cv.vm ≠ .statics q) ∧ X.2.2.1.vm.classes[cv.cls]? = some kv ∧ X.2.2.1.vm.assignable cv.cls comp = true)
    (hd : decode mm.2.1 pc = .ok (.aastore, 1)) (k : nd_W g mm d mc ms K X (pc + 1) lv st (h.set b (.inl (ty, n, .inr (.inr (va_up f j (.ref v)))))) cs ss) : nd_W g mm d mc ms K X pc lv (.ref v :: .int i :: .ref b :: st) h cs ss := by
  intro H ls locs hl hR hS
  have hin := nd_inn hij hj
  have e9 := nd_toNat hij
  obtain ⟨kA, comp, kc, cv, kv, q1, q2, q3, q4, q5, q6, q7⟩ := ha H hR
  have h0 : ¬ i < 0 := fun q => hin (Or.inl q)
  refine W.aast hC.1 hC.2.1 (hR.2.2 b _ hb) (fun q z => by cases z) (fun z => by cases z) q1 q2 hr q3 ⟨h0, by show _ < (arrV _ _ _).slots.size; rw [arrV_size, e9]; exact hj⟩ q4 q5 q6 q7 rfl rfl hd fun H1 e z oq => ?_
  refine k H1 ls _ hl (hR.set z oq ?_) (nd_S.put hS z oq)
  show H1[nd_z g + b]? = some (arrV (nd_tc g ty) n (fun q => nd_v g (va_up f j (.ref v) q)))
  rw [e]
  show some ((arrV (nd_tc g ty) n (fun q => nd_v g (f q))).setSlot _ _) = _
  rw [arrV_store, e9]
  congr 2
  funext q
  by_cases hq : q = j
  · subst hq
    simp [updV, va_up, nd_v]
  · simp [updV, va_up, hq]
theorem nd_P1 {H : Heap} {r : vw_C} {b ci : Nat} {fs : List Value} (hR : nd_R g h H) (hb : h[b]? = some (.inr (ci, fs))) (hc : nd_cl[ci]? = some r) : va_P (nd_D g) nd_cl [(nd_z g + b, .inr (ci, fs.map (nd_v g)))] H := by
  intro k q hq
  have hz : k < 1 := (List.getElem?_eq_some_iff.mp hq).1
  rw [show k = 0 by omega] at hq
  cases hq
  exact ⟨r, hc, hR.2.2 b _ hb r hc⟩
theorem nd_get (hC : nd_Cx g mm X) {ref C : String} {T : u_T} {N ci index b : Nat} {fs : List Value} (hin : ∀ w ∈ u_ws C T N, w ∈ lw_all) (hc : nd_cl[ci]? = some (C, T, N)) (hb : h[b]? = some (.inr (ci, fs))) (k : Nat) (hk : k < N) (hlink : Cond.fieldLink mm.1.cls index ref (T k).2.1 (T k).2.2.1 ∈ lw_all) (hsame : ∀ x, X.2.2.1.fieldFound? (T k).1 (T k).2.1 (T k).2.2.1 = some x → X.2.2.1.fieldFound? ref (T k).2.1 (T k).2.2.1 = some x) {v : Value} (hv : fs[k]? = some v) (hd : decode mm.2.1 pc = .ok (.getfield index, 3)) (kk : nd_W g mm d mc ms K X (pc + 3) lv (v :: st) h cs ss) : nd_W g mm d mc ms K X pc lv (.ref b :: st) h cs ss :=
  fun H ls locs hl hR hS => va_get (v := nd_v g v) hC.1 hC.2.1 hC.hts hin hC.own hC.amb.1 (nd_P1 hR hb hc) 0 rfl hc k hk (hC.hts _ hlink) hsame (by rw [List.getElem?_map, hv]; rfl) hd (kk H ls locs hl hR hS)
theorem nd_getN (hC : nd_Cx g mm X) {ref C : String} {T : u_T} {N ci index b : Nat} {fs : List Value} (hin : ∀ w ∈ u_ws C T N, w ∈ lw_all) (hc : nd_cl[ci]? = some (C, T, N)) (hb : h[b]? = some (.inr (ci, fs))) (k : Nat) (hk : k < N) {host : String} (hlink : Cond.fieldLinkNest mm.1.cls index ref (T k).2.1 (T k).2.2.1 host ∈ lw_tbl) (hsame : ∀ x, X.2.2.1.fieldFound? (T k).1 (T k).2.1 (T k).2.2.1 = some x → X.2.2.1.fieldFound? ref (T k).2.1 (T k).2.2.1 = some x) {v : Value} (hv : fs[k]? = some v) (hd : decode mm.2.1 pc = .ok (.getfield index, 3)) (kk : nd_W g mm d mc ms K X (pc + 3) lv (v :: st) h cs ss) : nd_W g mm d mc ms K X pc lv (.ref b :: st) h cs ss :=
  fun H ls locs hl hR hS => va_getN (v := nd_v g v) hC.1 hC.2.1 hC.hts hin hC.own hC.amb.1 (nd_P1 hR hb hc) 0 rfl hc k hk (va_Nw.use rfl (hC.amb.2.1 _ (List.mem_filter.mpr ⟨hlink, rfl⟩))) hsame (by rw [List.getElem?_map, hv]; rfl) hd (kk H ls locs hl hR hS)
theorem nd_apartF {args : Array Value} {s : State} {C O n e O' n' e' : String} (h : (Cond.laysFinal C O n e).before args s = true) (h' : (Cond.laysFinal C O' n' e').before args s = true)
    {cf kf fi fd cf' kf' fi' fd'} (hi : s.fieldFound? O n e = some (cf, kf, fi, fd)) (hi' : s.fieldFound? O' n' e' = some (cf', kf', fi', fd')) (hne : O ≠ O') : fd.slot ≠ fd'.slot := by
  obtain ⟨a, k, c1, k1, i1, g1, ha, -, hg, -, -, -, ho, -, x, hx, hn, -⟩ := Cond.laysFinal_spec h
  obtain ⟨a', k', c1', k1', i1', g1', ha', -, hg', -, -, -, ho', -, x', hx', hn', -⟩ := Cond.laysFinal_spec h'
  cases hi.symm.trans hg
  cases hi'.symm.trans hg'
  cases ha.symm.trans ha'
  obtain ⟨q, hq, hqn⟩ := Vm.findClass_spec ho
  obtain ⟨q', hq', hqn'⟩ := Vm.findClass_spec ho'
  have r := (State.fieldFound?_spec hg)
  have r' := (State.fieldFound?_spec hg')
  intro hs
  rw [hs] at hx
  cases hx.symm.trans hx'
  apply hne
  have e1 : kf.name = O := by
    have : s.vm.classes[cf]? = some kf := by first | exact r.1 | exact r.2.1 | exact r.2.2.1 | exact r.2.2
    rw [← hqn]; rw [hq] at this; cases this; rfl
  have e2 : kf'.name = O' := by
    have : s.vm.classes[cf']? = some kf' := by first | exact r'.1 | exact r'.2.1 | exact r'.2.2.1 | exact r'.2.2
    rw [← hqn']; rw [hq'] at this; cases this; rfl
  rw [← e1, ← e2, ← hn, hn']
/-- fields of one object have places of their own -/
def nd_nm (T : u_T) (N : Nat) : Bool := (List.range N).all fun a => (List.range N).all fun b => a == b || (T a).2.1 != (T b).2.1 || ((T a).2.2.2 && (T b).2.2.2 && (T a).1 != (T b).1)
theorem nd_apart (hC : nd_Cx g mm X) {C : String} {T : u_T} {N ci : Nat} (hin : ∀ w ∈ u_ws C T N, w ∈ lw_all) (ty : Nat → FieldType) (hty : ∀ k, k < N → parseFieldDescriptor (T k).2.2.1 = some (ty k)) (hnm : nd_nm T N = true) (hc : nd_cl[ci]? = some (C, T, N)) : ∀ x y, x < N → y < N → x ≠ y → ((nd_D g).2 ci) x ≠ ((nd_D g).2 ci) y := by
  intro x y hx hy hne
  obtain ⟨hS, -⟩ := hC.amb.1.1 ci _ hc
  obtain ⟨_, _, _, fa, hia, ea⟩ := hS x hx
  obtain ⟨_, _, _, fb, hib, eb⟩ := hS y hy
  rw [← ea, ← eb]
  have h1 := List.all_eq_true.mp (List.all_eq_true.mp hnm x (List.mem_range.mpr hx)) y (List.mem_range.mpr hy)
  simp only [Bool.or_eq_true, Bool.and_eq_true, beq_iff_eq, bne_iff_ne] at h1
  rcases h1 with (h1 | h1) | ⟨⟨f1, f2⟩, h1⟩
  · exact absurd h1 hne
  · refine u_apart (u_lays hC.hts hin hx) (u_lays hC.hts hin hy) hia hib ?_
    rw [(State.fieldFound?_type hia (hty x hx)).1, (State.fieldFound?_type hib (hty y hy)).1]
    exact h1
  · have l1 := hC.hts _ (hin _ (u_in_lay hx))
    have l2 := hC.hts _ (hin _ (u_in_lay hy))
    unfold u_lay at l1 l2
    rw [if_pos f1] at l1
    rw [if_pos f2] at l2
    exact nd_apartF l1 l2 hia hib h1
theorem nd_put (hC : nd_Cx g mm X) {ref C : String} {T : u_T} {N ci index b : Nat} {fs : List Value} (hin : ∀ w ∈ u_ws C T N, w ∈ lw_all) (hc : nd_cl[ci]? = some (C, T, N)) (hb : h[b]? = some (.inr (ci, fs))) (k : Nat) (hk : k < N) (ty0 : Nat → FieldType) (hty : ∀ k, k < N → parseFieldDescriptor (T k).2.2.1 = some (ty0 k)) (hnm : nd_nm T N = true) (hlink : Cond.fieldLink mm.1.cls index ref (T k).2.1 (T k).2.2.1 ∈ lw_all) (hsame : ∀ x, X.2.2.1.fieldFound? (T k).1 (T k).2.1 (T k).2.2.1 = some x → X.2.2.1.fieldFound? ref (T k).2.1 (T k).2.2.1 = some x) (hfin : (T k).2.2.2 = false) {v : Value} (hn : narrow (ty0 k) (nd_v g v) = nd_v g v) (hfit : fits (ty0 k) (nd_v g v) = true) (hlen : k < fs.length) (hd : decode mm.2.1 pc = .ok (.putfield index, 3)) (kk : nd_W g mm d mc ms K X (pc + 3) lv st (h.set b (.inr (ci, fs.set k v))) cs ss) : nd_W g mm d mc ms K X pc lv (v :: .ref b :: st) h cs ss := by
  intro H ls locs hl hR hS0
  have hap := nd_apart hC hin ty0 hty hnm hc
  obtain ⟨cell, q1, q2, q3, q4⟩ := hR.2.2 b _ hb _ hc
  obtain ⟨hS, hfc, kC, hkC, hkind⟩ := hC.amb.1.1 ci _ hc
  obtain ⟨cf, kf, fi, f, hi, hsl⟩ := hS k hk
  have hlay := hC.hts _ (hin _ (u_in_lay hk))
  unfold u_lay at hlay
  rw [if_neg (by rw [hfin]; decide)] at hlay
  have hst := (u_facts hfc hkC (u_lays hC.hts hin hk) hi).1
  have h6 := u_store hfc hkC hkind hlay hi (hty k hk) hn hfit
  refine W.putK hC.1 hC.2.1 (f := f) ⟨hC.own, hC.hts _ hlink, ⟨_, _, _, hsame _ hi⟩, hst⟩ (by rw [q2]; exact h6) q1 q3 (by rw [hsl]; exact k2_hasslot (q4 k hk)) rfl rfl hd fun H1 e1 e2 e3 => ?_
  rw [hsl] at e1 ⊢
  refine kk H1 ls _ hl (hR.set e2 e3 ?_) (nd_S.put hS0 e2 e3)
  intro r hr
  cases Option.some.inj (hr.symm.trans hc)
  refine t_OB.to (V := updV (vp_V (fs.map (nd_v g))) k (nd_v g v)) ⟨_, e1, q2, q3, t_set q4 hap hk (nd_v g v)⟩ (fun j _ => ?_)
  rw [List.map_set]
  exact vp_updV_set (by rw [List.length_map]; exact hlen) (nd_v g v) j
theorem nd_putN (hC : nd_Cx g mm X) {ref C : String} {T : u_T} {N ci index b : Nat} {fs : List Value} (hin : ∀ w ∈ u_ws C T N, w ∈ lw_all) (hc : nd_cl[ci]? = some (C, T, N)) (hb : h[b]? = some (.inr (ci, fs))) (k : Nat) (hk : k < N) (ty0 : Nat → FieldType) (hty : ∀ k, k < N → parseFieldDescriptor (T k).2.2.1 = some (ty0 k)) (hnm : nd_nm T N = true) {host : String} (hlink : Cond.fieldLinkNest mm.1.cls index ref (T k).2.1 (T k).2.2.1 host ∈ lw_tbl) (hsame : ∀ x, X.2.2.1.fieldFound? (T k).1 (T k).2.1 (T k).2.2.1 = some x → X.2.2.1.fieldFound? ref (T k).2.1 (T k).2.2.1 = some x) (hfin : (T k).2.2.2 = false) {v : Value} (hn : narrow (ty0 k) (nd_v g v) = nd_v g v) (hfit : fits (ty0 k) (nd_v g v) = true) (hlen : k < fs.length) (hd : decode mm.2.1 pc = .ok (.putfield index, 3)) (kk : nd_W g mm d mc ms K X (pc + 3) lv st (h.set b (.inr (ci, fs.set k v))) cs ss) : nd_W g mm d mc ms K X pc lv (v :: .ref b :: st) h cs ss := by
  intro H ls locs hl hR hS0
  have hap := nd_apart hC hin ty0 hty hnm hc
  obtain ⟨cell, q1, q2, q3, q4⟩ := hR.2.2 b _ hb _ hc
  obtain ⟨hS, hfc, kC, hkC, hkind⟩ := hC.amb.1.1 ci _ hc
  obtain ⟨cf, kf, fi, f, hi, hsl⟩ := hS k hk
  have hlay := hC.hts _ (hin _ (u_in_lay hk))
  unfold u_lay at hlay
  rw [if_neg (by rw [hfin]; decide)] at hlay
  have hst := (u_facts hfc hkC (u_lays hC.hts hin hk) hi).1
  have h6 := u_store hfc hkC hkind hlay hi (hty k hk) hn hfit
  refine va_WputK hC.1 hC.2.1 (f := f) hC.own (va_Nw.use rfl (hC.amb.2.1 _ (List.mem_filter.mpr ⟨hlink, rfl⟩))) (hsame _ hi) hst (by rw [q2]; exact h6) q1 q3 (by rw [hsl]; exact k2_hasslot (q4 k hk)) rfl rfl hd fun H1 e1 e2 e3 => ?_
  rw [hsl] at e1 ⊢
  refine kk H1 ls _ hl (hR.set e2 e3 ?_) (nd_S.put hS0 e2 e3)
  intro r hr
  cases Option.some.inj (hr.symm.trans hc)
  refine t_OB.to (V := updV (vp_V (fs.map (nd_v g))) k (nd_v g v)) ⟨_, e1, q2, q3, t_set q4 hap hk (nd_v g v)⟩ (fun j _ => ?_)
  rw [List.map_set]
  exact vp_updV_set (by rw [List.length_map]; exact hlen) (nd_v g v) j
theorem nd_putF (hC : nd_Cx g mm X) {ref C : String} {T : u_T} {N ci index b : Nat} {fs : List Value} (hin : ∀ w ∈ u_ws C T N, w ∈ lw_all) (hc : nd_cl[ci]? = some (C, T, N)) (hb : h[b]? = some (.inr (ci, fs))) (k : Nat) (hk : k < N) (ty0 : Nat → FieldType) (hty : ∀ k, k < N → parseFieldDescriptor (T k).2.2.1 = some (ty0 k)) (hnm : nd_nm T N = true) (hlink : Cond.fieldLink mm.1.cls index ref (T k).2.1 (T k).2.2.1 ∈ lw_all) (hsame : ∀ x, X.2.2.1.fieldFound? (T k).1 (T k).2.1 (T k).2.2.1 = some x → X.2.2.1.fieldFound? ref (T k).2.1 (T k).2.2.1 = some x) (hfin : (T k).2.2.2 = true) (hini : mm.1.name = "<init>") (hdecl : (T k).1 = mm.1.cls) {v : Value} (hn : narrow (ty0 k) (nd_v g v) = nd_v g v) (hfit : fits (ty0 k) (nd_v g v) = true) (hlen : k < fs.length) (hd : decode mm.2.1 pc = .ok (.putfield index, 3)) (kk : nd_W g mm d mc ms K X (pc + 3) lv st (h.set b (.inr (ci, fs.set k v))) cs ss) : nd_W g mm d mc ms K X pc lv (v :: .ref b :: st) h cs ss := by
  intro H ls locs hl hR hS0
  have hap := nd_apart hC hin ty0 hty hnm hc
  obtain ⟨cell, q1, q2, q3, q4⟩ := hR.2.2 b _ hb _ hc
  obtain ⟨hS, hfc, kC, hkC, hkind⟩ := hC.amb.1.1 ci _ hc
  obtain ⟨cf, kf, fi, f, hi, hsl⟩ := hS k hk
  have hlay := hC.hts _ (hin _ (u_in_lay hk))
  unfold u_lay at hlay
  rw [if_pos hfin] at hlay
  have hst := (u_facts hfc hkC (u_lays hC.hts hin hk) hi).1
  have hcf : X.2.2.2.1.cls = cf := by
    obtain ⟨_, _, c', _, _, _, -, -, hf', -, -, -, hown2, -⟩ := Cond.laysFinal_spec hlay
    have e1 : c' = cf := by have := hi.symm.trans hf'; simp at this; exact this.1.symm
    rw [hdecl] at hown2
    rw [← e1]; exact Option.some.inj (hC.own.symm.trans hown2)
  have h6 := u_fits hfc hkC hkind (Or.inr hlay) hi (hty k hk) hn hfit
  refine W.putFinK hC.1 hC.2.1 hC.own (hC.hts _ hlink) (hsame _ hi) hst hcf (hC.nm.trans hini) (by rw [q2]; exact h6) q1 q3 (by rw [hsl]; exact k2_hasslot (q4 k hk)) rfl rfl hd fun H1 e1 e2 e3 => ?_
  rw [hsl] at e1 ⊢
  refine kk H1 ls _ hl (hR.set e2 e3 ?_) (nd_S.put hS0 e2 e3)
  intro r hr
  cases Option.some.inj (hr.symm.trans hc)
  refine t_OB.to (V := updV (vp_V (fs.map (nd_v g))) k (nd_v g v)) ⟨_, e1, q2, q3, t_set q4 hap hk (nd_v g v)⟩ (fun j _ => ?_)
  rw [List.map_set]
  exact vp_updV_set (by rw [List.length_map]; exact hlen) (nd_v g v) j
/-- plain values: the same in the machine -/
def nd_pl (v : Value) : Bool := match v with
  | .int _ => true
  | .long _ => true
  | .null => true
  | _ => false
theorem nd_pl_v {v : Value} (h : nd_pl v = true) : nd_v g v = v := by
  cases v with
  | int x => rfl
  | long x => rfl
  | null => rfl
  | _ => exact absurd h (by simp [nd_pl])
theorem nd_new (hC : nd_Cx g mm X) {C : String} {T : u_T} {N ci index : Nat} (fs : List Value) (hin : ∀ w ∈ u_ws C T N, w ∈ lw_all) (hc : nd_cl[ci]? = some (C, T, N)) (ty0 : Nat → FieldType) (hty : ∀ k, k < N → parseFieldDescriptor (T k).2.2.1 = some (ty0 k)) (hcl : Cond.classLink mm.1.cls index C ∈ lw_all) (hinst : Cond.instantiable C N ∈ lw_all) (hini : Cond.initialized C ∈ lw_all)
    (hfs : (List.range N).map (fun j => defaultValue (ty0 j)) = fs) (hpl : fs.all nd_pl = true) (hcells : cs + 1 ≤ mc) (hslots : ss + N ≤ ms) (hd : decode mm.2.1 pc = .ok (.new index, 3)) (kk : nd_W g mm d mc ms K X (pc + 3) lv (.ref h.length :: st) (h ++ [.inr (ci, fs)]) (cs + 1) (ss + N)) : nd_W g mm d mc ms K X pc lv st h cs ss := by
  intro H ls locs hl hR hS
  have hKn := hC.amb.1.1 ci _ hc
  refine W.newcK hC.1 hC.2.1 hC.own (hC.hts _ hcl) (hC.hts _ hinst) (hC.hts _ hini) rfl hd hcells hslots hKn.2.1 rfl fun H1 kC hkC e1 z1 o1 => ?_
  have hz := hR.1
  refine W.eq (g2 := F0 X.2.2.2.1 (pc + 3) ls (.ref (nd_z g + h.length) :: st.map (nd_v g))) (by rw [← hz]) ?_
  refine kk H1 ls locs hl (hR.push z1 o1 ?_) (nd_S.grow hS (by omega) o1)
  intro r hr
  cases Option.some.inj (hr.symm.trans hc)
  rw [← hz]
  refine (u_born ty0 hC.hts hin hKn hkC e1 hty).to (fun j hj => ?_)
  have e : fs[j]? = some (defaultValue (ty0 j)) := by rw [← hfs, List.getElem?_map, List.getElem?_range hj]; rfl
  have e2 := nd_pl_v (g := g) (List.all_eq_true.mp hpl _ (List.mem_of_getElem? e))
  simp [vp_V, List.getD_eq_getElem?_getD, List.getElem?_map, e, e2]
theorem nd_newarray (hC : nd_Cx g mm X) {atype : ArrayType} {ty : Nat} (t : FieldType) (a : nd_A) (ha : Cond.arrayClass (newarray.typeOf atype) ∈ lw_all) (ht : nd_ty[ty]? = some t) (hty : newarray.typeOf atype = t) (hra : ∀ U cA, va_RA U cA t = (U.vm.findClass ("[" ++ t.toString) = some cA)) {n : Int32} {N : Nat} (hpa : nd_pa g ty N a = arrV (nd_tc g ty) N (fun _ => defaultValue t)) (hN : n.toInt = (N : Int)) (hbytes : N * componentBytes t ≤ 536870912) (hcells : cs + 1 ≤ mc) (hslots : ss + N ≤ ms) (hd : decode mm.2.1 pc = .ok (.newarray atype, 2)) (kk : nd_W g mm d mc ms K X (pc + 2) lv (.ref h.length :: st) (h ++ [.inl (ty, N, a)]) (cs + 1) (ss + N)) : nd_W g mm d mc ms K X pc lv (.int n :: st) h cs ss := by
  subst hty
  intro H ls locs hl hR hS
  have hneg : ¬ n < 0 := by rw [Int32.lt_iff_toInt_lt, hN, Int32.toInt_zero]; omega
  refine va_newaK hC.1 hC.2.1 (hC.hts _ ha) rfl hd rfl hneg (nd_toNat hN) hbytes hcells hslots rfl fun H1 cA e1 z1 o1 hAr hNm => ?_
  have hz := hR.1
  have hcA : cA = nd_tc g ty := by
    have h1 := nd_ara hC ht
    rw [hra] at h1
    exact Option.some.inj (hNm.symm.trans h1)
  refine W.eq (g2 := F0 X.2.2.2.1 (pc + 2) ls (.ref (nd_z g + h.length) :: st.map (nd_v g))) (by rw [← hz]) ?_
  refine kk H1 ls locs hl (hR.push z1 o1 ?_) (nd_S.grow hS (by omega) o1)
  show H1[nd_z g + h.length]? = some (nd_pa g ty N a)
  rw [← hz, e1, hpa, hcA]
theorem nd_anew (hC : nd_Cx g mm X) {C : String} {ty index : Nat} (hclink : Cond.classLink mm.1.cls index C ∈ lw_all) (hover : Cond.arrayOver (.object C) ∈ lw_tbl) (ht : nd_ty[ty]? = some (.object C)) {n : Int32} {N : Nat} (hN : n.toInt = (N : Int)) (hbytes : N * 4 ≤ 536870912) (hcells : cs + 1 ≤ mc) (hslots : ss + N ≤ ms) (hd : decode mm.2.1 pc = .ok (.anewarray index, 3)) (kk : nd_W g mm d mc ms K X (pc + 3) lv (.ref h.length :: st) (h ++ [.inl (ty, N, .inr (.inr (fun _ => .null)))]) (cs + 1) (ss + N)) : nd_W g mm d mc ms K X pc lv (.int n :: st) h cs ss := by
  intro H ls locs hl hR hS
  have hneg : ¬ n < 0 := by rw [Int32.lt_iff_toInt_lt, hN, Int32.toInt_zero]; omega
  have eN := nd_toNat hN
  obtain ⟨b0, hw0, -⟩ := hC.ok.2.2.1
  have hov : va_AO C X.2.2.1 := va_AO.moved hC.amb.2.2.1 (va_AO.of (hw0 _ hover))
  refine W.anew hC.1 hC.2.1 hC.own (hC.hts _ hclink) (va_AO.use hov) rfl hd rfl hneg (by rw [eN]; exact hbytes) hcells (by rw [eN]; exact hslots) fun cA kA comp f1 f2 f3 f4 => ?_
  rw [eN]
  have hz := hR.1
  have hcA : cA = nd_tc g ty := by
    obtain ⟨_, _, -, -, -, h4⟩ := nd_ara hC ht
    exact Option.some.inj (f1.symm.trans h4)
  refine W.eq (g2 := F0 X.2.2.2.1 (pc + 3) ls (.ref (nd_z g + h.length) :: st.map (nd_v g))) (by rw [← hz]) ?_
  have z1 : (H.push ({ cls := cA, slots := Array.replicate N .null, vm := .none } : Cell)).size = H.size + 1 := by simp
  have o1 : ∀ q : Nat, q < H.size → (H.push ({ cls := cA, slots := Array.replicate N .null, vm := .none } : Cell))[q]? = H[q]? := fun q hq => by rw [Array.getElem?_push]; simp; omega
  refine kk _ ls locs hl (hR.push z1 o1 ?_) (nd_S.grow hS (by omega) o1)
  show (H.push ({ cls := cA, slots := Array.replicate N .null, vm := .none } : Cell))[nd_z g + h.length]? = some (arrV (nd_tc g ty) N (fun _ => nd_v g .null))
  rw [← hz, Array.getElem?_push_size, hcA]
  congr 1
  unfold arrV
  congr 1
  ext i h1 h2
  · simp
  · simp [nd_v]
end NDH
