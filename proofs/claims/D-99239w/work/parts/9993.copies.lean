set_option maxRecDepth 100000
/-! ===== copies ===== -/
/-- states copied so far: kept cells, owners -/
def cq_I (o : Nat → Nat) (h : nd_H) (TA τ nap er0 er : Nat) (o1 : Nat → Nat) (h1 : nd_H) (ds2 : List Nat) (ps : List sv) : Prop :=
  (cw_lr o1 h1 TA τ ds2 er ∧ (er = er0 ∨ (er0 = 0 ∧ h.length ≤ er))) ∧ ds2.length = ps.length ∧ (∀ i, i < ds2.length → cw_b o1 h1 nap (ds2.getD i 0) (ps.getD i ([], [], []))) ∧ ds2.Nodup ∧ (∀ D ∈ ds2, h.length ≤ D) ∧ h.length ≤ h1.length ∧ (∀ a, a < h.length → o1 a = o a) ∧ (∀ a, o1 a ≠ 0 → a < h1.length ∧ (a < h.length ∨ 123 ≤ a)) ∧ ∀ a, a < h.length → a ≠ TA → (er0 = 0 ∨ a ≠ er0) → h1[a]? = h[a]?
section CP93
variable {g : nd_G} {d : Nat} {K : nd_K} {h : nd_H} {o : Nat → Nat}
theorem nd_mem_getD {ds : List Nat} {i : Nat} (h : i < ds.length) : ds.getD i 0 ∈ ds := by
  rw [List.getD_eq_getElem?_getD, List.getElem?_eq_getElem h]
  exact List.getElem_mem h
/-- one more state is copied -/
theorem cq_I.step {o : Nat → Nat} {h : nd_H} {TA τ nap er0 er er4 : Nat} {o1 : Nat → Nat} {h1 : nd_H} {ds2 : List Nat} {ps : List sv} (H : cq_I o h TA τ nap er0 er o1 h1 ds2 ps) {h2 h3 h4 : nd_H} {o4 : Nat → Nat} {s : sv} (hl : 123 ≤ h.length) (hτ : τ < 20) (hTA : TA < h.length)
    (l2 : h2.length = h1.length + 8) (k2 : ∀ a, a < h1.length → h2[a]? = h1[a]?) (f3 : cs_fr h1.length h2 h3) (s3 : cs_st h3 h1.length nap s)
    (w4 : cw_lr o4 h4 TA τ (ds2 ++ [h1.length]) er4) (we : er4 = er ∨ (er = 0 ∧ h3.length ≤ er4)) (l4 : h3.length ≤ h4.length) (e4 : ∀ a, a < h3.length → o4 a = ow o1 h1.length 8 (20 + h1.length) a) (b4 : ∀ a, o4 a ≠ 0 → a < h4.length ∧ (a < h3.length ∨ 123 ≤ a)) (k4 : ∀ a, a < h3.length → a ≠ TA → (er = 0 ∨ a ≠ er) → h4[a]? = h3[a]?) : cq_I o h TA τ nap er0 er4 o4 h4 (ds2 ++ [h1.length]) (ps ++ [s]) := by
  obtain ⟨⟨c1, c0⟩, c2, c3, c4, c5, c6, c7, c8, c9⟩ := H
  have her : er = 0 ∨ (er ≠ 0 ∧ o1 er = τ ∧ er < h1.length) := by
    rcases c1 with ⟨-, e0, -⟩ | ⟨m, gf, e1, e2, -, e4, -⟩
    · exact Or.inl e0
    · exact Or.inr ⟨by omega, e1, nd_get_lt e4⟩
  have l3 : h3.length = h1.length + 8 := f3.1.trans l2
  have owo : ∀ a, a < h1.length → ow o1 h1.length 8 (20 + h1.length) a = o1 a := fun a ha => by unfold ow; rw [if_neg (by omega)]
  have own : ∀ j, j < 8 → ow o1 h1.length 8 (20 + h1.length) (h1.length + j) = 20 + h1.length := fun j hj => by unfold ow; rw [if_pos (by omega)]
  have k3 : ∀ a, a < h1.length → h3[a]? = h1[a]? := fun a ha => (f3.2 a (by omega)).trans (k2 a ha)
  refine ⟨⟨w4, by omega⟩, by rw [List.length_append, List.length_append, c2]; rfl, fun i hi => ?_, ?_, fun D hD => ?_, by omega, fun a ha => ?_, fun a ha => ?_, fun a ha z1 z2 => ?_⟩
  · rw [List.length_append] at hi
    have hi : i < ds2.length + 1 := hi
    rw [gd_app hi, gd_app (by rw [← c2]; exact hi), ← c2]
    by_cases z : i = ds2.length
    · rw [if_pos z, if_pos z]
      refine ⟨by omega, fun j hj => by rw [e4 _ (by omega)]; exact own j hj, s3.kp (fun j c hj _ e => (k4 _ (by omega) (by omega) (by omega)).trans e)⟩
    · rw [if_neg z, if_neg z]
      have hiD := c3 i (by omega)
      have hin := c5 _ (nd_mem_getD (show i < ds2.length by omega))
      obtain ⟨q1, q2, q3⟩ := hiD
      have lt : ∀ j, j < 8 → ds2.getD i 0 + j < h1.length := fun j hj => (c8 _ (by rw [q2 j hj]; omega)).1
      refine ⟨q1, fun j hj => by rw [e4 _ (by have := lt j hj; omega), owo _ (lt j hj)]; exact q2 j hj, q3.kp (fun j c hj _ e => (k4 _ (by have := lt j hj; omega) (by omega) (by
        rcases her with z | ⟨z1, z2, z3⟩
        · exact Or.inl z
        · refine Or.inr (fun q => ?_)
          have := q2 j hj
          rw [q] at this
          omega)).trans ((k3 _ (lt j hj)).trans e))⟩
  · rw [List.nodup_append]
    refine ⟨c4, List.nodup_cons.2 ⟨by simp, List.nodup_nil⟩, fun a ha b hb => ?_⟩
    have hb : b = h1.length := by simpa using hb
    obtain ⟨i, hi, rfl⟩ := List.getElem_of_mem ha
    have q2 := (c3 i hi).2.1 0 (by omega)
    rw [List.getD_eq_getElem?_getD, List.getElem?_eq_getElem hi] at q2
    have := (c8 _ (by rw [q2]; omega)).1
    have this : ds2[i] + 0 < h1.length := this
    omega
  · rcases List.mem_append.1 hD with z | z
    · exact c5 D z
    · have : D = h1.length := by simpa using z
      omega
  · rw [e4 a (by omega), owo a (by omega)]; exact c7 a ha
  · have := b4 a ha
    by_cases z : a < h3.length
    · rw [e4 a z] at ha
      by_cases z2 : a < h1.length
      · rw [owo a z2] at ha
        have := c8 a ha
        omega
      · omega
    · omega
  · rw [k4 a (by omega) z1 (by omega), k3 a (by omega)]
    exact c9 a ha z1 z2
theorem cx_copies (hg : nd_OK g) (hd : 8 ≤ d) {FA TA τF τT nap n er0 : Nat} {dsF dsT : List Nat} {ps : List sv} (hl : 123 ≤ h.length) (hol : ∀ a, o a ≠ 0 → a < h.length) (hτF : 1 ≤ τF) (hτT : 1 ≤ τT) (hτF2 : τF < 20) (hτT2 : τT < 20) (hne : τF ≠ τT) (hFT : FA ≠ TA) (hFo : o FA ≠ τT) (hFA20 : o FA < 20) (hTA20 : o TA < 20) (hTAn : TA < h.length) (hoT : o TA = 0 ∨ o TA = τT) (hn : n ≤ 6) (hF : cw_l o h FA τF dsF) (hT : cw_lr o h TA τT dsT er0) (h10F : dsF.length ≤ 10) (h10T : dsT.length ≤ 10) (hlp : dsF.length = ps.length) (hb : ∀ i, i < dsF.length → cw_b o h nap (dsF.getD i 0) (ps.getD i ([], [], []))) (hv : ∀ s ∈ ps, sv_ok n s)
    (hEF : er0 = 0 ∨ FA ≠ er0) (hk : ∀ h2 o2 er ds2, cq_I o h TA τT nap er0 er o2 h2 ds2 ps → K (.inl none) h2) : nd_M g mX1_copies d 92 500 [.ref FA, .ref TA] h K := by
  have hFl : FA < h.length := by
    rcases hF with ⟨-, m, e⟩ | ⟨m, ed, gf, -, -, e, -⟩
    · exact nd_get_lt e
    · exact nd_get_lt e
  have hTr : h[TA]? = some h[TA] := List.getElem?_eq_getElem hTAn
  obtain ⟨mT, eT, zT, rT⟩ : ∃ mT eT zT, h[TA]? = some (.inr (nJ2, [.int mT, eT, .int zT])) := by
    exact hT.at
  have hEr : ∀ b, o b = τF → er0 = 0 ∨ b ≠ er0 := fun b hb9 => by
    rcases hT with ⟨-, e0, -⟩ | ⟨m, gf, e1, -⟩
    · exact Or.inl e0
    · exact Or.inr (fun q => by rw [q] at hb9; omega)
  have hEd : ∀ b, 20 ≤ o b → er0 = 0 ∨ b ≠ er0 := fun b hb9 => by
    rcases hT with ⟨-, e0, -⟩ | ⟨m, gf, e1, -⟩
    · exact Or.inl e0
    · exact Or.inr (fun q => by rw [q] at hb9; omega)
  refine nd_enter hg (by decide) rfl (Nat.le_of_ble_eq_true rfl) (fun X hC => ?_)
  refine nd_aload_n hC dX1_copies_0 rfl rfl ?_
  refine nd_callV (mm2 := mJ2_clear) (As := []) (mc2 := 0) (ms2 := 0) (d2 := d - 1) hC rfl lkX1_74 ⟨rfl, lmJ2_clear⟩ (rT) rfl (Nat.le_of_ble_eq_true rfl) (by omega) rfl (by exact Nat.le_of_ble_eq_true rfl) (by omega) (by omega) dX1_copies_1 rfl ((cl_clear hg h10T hT (fun h1 w1 l1 k1 => ?_)))
  have F1 : cw_l o h1 FA τF dsF := hF.kp hτF (fun _ _ => rfl) (fun c e => (k1 FA hFT hEF).trans e) (fun b c z e => (k1 b (fun q => by rw [q] at z; rcases hoT with y | y <;> omega) (hEr b z)).trans e)
  obtain ⟨m, yE, rF⟩ : ∃ m yE, h1[FA]? = some (.inr (nJ2, [.int m, yE, .int (nI dsF.length)])) := by
    rcases F1 with ⟨e0, m, e⟩ | ⟨m, ed, gf, -, -, e, -⟩
    · rw [e0]; exact ⟨_, _, e⟩
    · exact ⟨_, _, e⟩
  refine nd_aload_n hC dX1_copies_4 rfl rfl ?_
  refine nd_callV (mm2 := mJ2_iterator) (As := []) (mc2 := 1) (ms2 := 4) (d2 := d - 1) hC rfl lkX1_77 ⟨rfl, lmJ2_iterator⟩ (rF) rfl (Nat.le_of_ble_eq_true rfl) (by omega) rfl (by exact Nat.le_of_ble_eq_true rfl) (by omega) (by omega) dX1_copies_5 rfl ((al_iter hg (by omega) rF ?_))
  refine nd_astore_n hC dX1_copies_8 (Nat.le_of_ble_eq_true rfl) rfl ?_
  have I0 : cq_I o h TA τT nap er0 er0 o (h1 ++ [.inr (nJ27, [.int (nI 0), .int (-1), .int m, .ref FA])]) [] [] := by
    refine ⟨⟨?_, Or.inl rfl⟩, rfl, fun i hi => absurd hi (Nat.not_lt_zero _), List.nodup_nil, (fun D hD => nomatch hD), by rw [List.length_append]; omega, fun _ _ => rfl, fun a ha => by have := hol a ha; rw [List.length_append]; omega, fun a ha z1 z2 => by rw [List.getElem?_append_left (by omega)]; exact k1 a z1 z2⟩
    exact w1.kp (fun _ _ => rfl) (fun c e => (List.getElem?_append_left (nd_get_lt e)).trans e) (fun c _ _ e => (List.getElem?_append_left (nd_get_lt e)).trans e)
  have LP : ∀ k, k ≤ dsF.length → ∀ (hx : nd_H) (ox : Nat → Nat) (er : Nat) (ds2 : List Nat) (lr : Value) (l3 l4 : Option Value), cq_I o h TA τT nap er0 er ox hx ds2 (ps.take k) → hx[h.length]? = some (.inr (nJ27, [.int (nI k), lr, .int m, .ref FA])) → ox h.length = 0 → h.length < hx.length → nd_W g mX1_copies d 92 500 K X 9 [some (.ref FA), some (.ref TA), some (.ref h.length), l3, l4] [] hx (1 + 9 * k) (4 + 48 * k) := by
    refine nd_for _ _ ?_ ?_
    · intro hx ox er ds2 lr l3 l4 HI hit hox hln
      have rF2 : hx[FA]? = some (.inr (nJ2, [.int m, yE, .int (nI dsF.length)])) := by
        rw [HI.2.2.2.2.2.2.2.2 FA hFl hFT hEF, ← k1 FA hFT hEF]; exact rF
      refine nd_aload_n hC dX1_copies_9 rfl rfl ?_
      refine nd_callF (mm2 := mJ27_hasNext) (As := []) (mc2 := 0) (ms2 := 0) (d2 := d - 1) (x := ⟨"java/util/Iterator", "hasNext", "()Z"⟩) hC rfl lfX1_81 (lgJ27_hasNext hC.ok) ⟨by decide, by decide, by decide +kernel⟩ hit rfl (Nat.le_of_ble_eq_true rfl) (by omega) rfl (by exact Nat.le_of_ble_eq_true rfl) (by omega) (by omega) dX1_copies_10 rfl (it_has hg (by omega) (by omega) hit rF2 ?_)
      rw [decide_eq_false (by omega)]
      refine nd_if_eqB hC (tgt := 53) dX1_copies_15 (by decide) (fun _ => ?_) (fun hq => absurd hq (by decide))
      have R := hk hx ox er ds2 (by rw [hlp, List.take_length] at HI; exact HI)
      refine nd_return hC rfl (by omega) (by omega) dX1_copies_53 (R)
    · intro k hkn ih hx ox er ds2 lr l3 l4 HI hit hox hln
      obtain ⟨⟨c1, c0⟩, c2, c3, c4, c5, c6, c7, c8, c9⟩ := id HI
      have kx : ∀ a, a < h.length → a ≠ TA → (er0 = 0 ∨ a ≠ er0) → hx[a]? = h[a]? := c9
      have rF2 : hx[FA]? = some (.inr (nJ2, [.int m, yE, .int (nI dsF.length)])) := by
        rw [kx FA hFl hFT hEF, ← k1 FA hFT hEF]; exact rF
      obtain ⟨ed, gf, eo, e123, rE, gE, gR⟩ : ∃ ed gf, o ed = τF ∧ 123 ≤ ed ∧ yE = .ref ed ∧ hx[ed]? = some (.inl (10, 10, .inr (.inr gf))) ∧ (∀ i, i < 10 → nd_rf (gf i) = true) ∧ ∀ i, i < dsF.length → gf i = .ref (dsF.getD i 0) := by
        rcases F1 with ⟨z, -⟩ | ⟨m9, ed, gf, y1, y2, y3, y4, y5, y6⟩
        · rw [z] at hkn; exact absurd hkn (Nat.not_lt_zero _)
        · have e := Option.some.inj (rF.symm.trans y3)
          simp only [Sum.inr.injEq, Prod.mk.injEq, List.cons.injEq] at e
          refine ⟨ed, gf, y1, y2, e.2.2.1, ?_, y5, y6⟩
          have hel : ed < h.length := hol ed (by omega)
          have hEt : ed ≠ TA := fun q => by rw [q] at y1; rcases hoT with y | y <;> omega
          rw [kx ed hel hEt (hEr ed y1), ← k1 ed hEt (hEr ed y1)]
          exact y4
      obtain ⟨gE1, gE2⟩ : (∀ i, i < 10 → nd_rf (gf i) = true) ∧ ∀ i, i < dsF.length → gf i = .ref (dsF.getD i 0) := gR
      subst rE
      have hel : ed < h.length := hol ed (by omega)
      refine nd_aload_n hC dX1_copies_9 rfl rfl ?_
      refine nd_callF (mm2 := mJ27_hasNext) (As := []) (mc2 := 0) (ms2 := 0) (d2 := d - 1) (x := ⟨"java/util/Iterator", "hasNext", "()Z"⟩) hC rfl lfX1_81 (lgJ27_hasNext hC.ok) ⟨by decide, by decide, by decide +kernel⟩ hit rfl (Nat.le_of_ble_eq_true rfl) (by omega) rfl (by exact Nat.le_of_ble_eq_true rfl) (by omega) (by omega) dX1_copies_10 rfl (it_has hg (by omega) (by omega) hit rF2 ?_)
      rw [decide_eq_true (by omega)]
      refine nd_if_eqB hC (tgt := 53) dX1_copies_15 (by decide) (fun hq => absurd hq (by decide)) (fun _ => ?_)
      refine nd_aload_n hC dX1_copies_18 rfl rfl ?_
      refine nd_callF (mm2 := mJ27_next) (As := []) (mc2 := 0) (ms2 := 0) (d2 := d - 1) (x := ⟨"java/util/Iterator", "next", "()Ljava/lang/Object;"⟩) hC rfl lfX1_87 (lgJ27_next hC.ok) ⟨by decide, by decide, by decide +kernel⟩ hit rfl (Nat.le_of_ble_eq_true rfl) (by omega) rfl (by exact Nat.le_of_ble_eq_true rfl) (by omega) (by omega) dX1_copies_19 rfl (it_next hg (by omega) (by omega) (by omega) hkn h10F hit rF2 gE (gE1 k (by omega)) ?_)
      rw [gE2 k hkn]
      generalize hy : hx.set h.length (.inr (nJ27, [.int (nI (k + 1)), .int (nI k), .int m, .ref FA])) = hyy
      have ly : hyy.length = hx.length := by rw [← hy]; exact List.length_set
      have ky : ∀ a, a ≠ h.length → hyy[a]? = hx[a]? := fun a ha => by rw [← hy]; exact List.getElem?_set_ne (Ne.symm ha)
      have iy : hyy[h.length]? = some (.inr (nJ27, [.int (nI (k + 1)), .int (nI k), .int m, .ref FA])) := by rw [← hy]; exact List.getElem?_set_self hln
      have HY : cq_I o h TA τT nap er0 er ox hyy ds2 (ps.take k) := by
        refine ⟨⟨c1.kp (fun _ _ => rfl) (fun c e => (ky TA (by omega)).trans e) (fun c z1 z e => (ky er (fun q => by rw [q] at z; omega)).trans e), c0⟩, c2, fun i hi => (c3 i hi).kp (fun _ _ => rfl) (fun b c z e => (ky b (fun q => by rw [q] at z; omega)).trans e), c4, c5, by omega, c7, fun a ha => by rw [ly]; exact c8 a ha, fun a ha z1 z2 => (ky a (by omega)).trans (c9 a ha z1 z2)⟩
      obtain ⟨sk1, sk2, sk3⟩ := hb k hkn
      have slt : ∀ j, j < 8 → dsF.getD k 0 + j < h.length := fun j hj => hol _ (by rw [sk2 j hj]; omega)
      have sk4 : cs_st hyy (dsF.getD k 0) nap (ps.getD k ([], [], [])) := sk3.kp (fun j c hj _ e => (ky _ (by have := slt j hj; omega)).trans ((kx _ (slt j hj) (fun q => by have := sk2 j hj; rw [q] at this; omega) (hEd _ (by rw [sk2 j hj]; omega))).trans e))
      obtain ⟨sfr, sbk, sfo, smn, sS, -⟩ := id sk4
      refine nd_castS hC q227 sS.1 rfl dX1_copies_24 ?_
      refine nd_astore_n hC dX1_copies_27 (Nat.le_of_ble_eq_true rfl) rfl ?_
      refine nd_new (ci := nX2) hC [.null, .null, .null, .null, .int 0] in_X2 rfl tyX2 tyX2_ok q227 q228 q150 rfl rfl (by omega) (by omega) dX1_copies_28 ?_
      refine nd_dup hC (by rfl) dX1_copies_31 ?_
      refine nd_callIN (mm2 := mX2_init) (As := []) (mc2 := 7) (ms2 := 33) (d2 := d - 1) hC rfl rfl q231 q150 q229 q230 rfl lmX2_init (Nat.le_of_ble_eq_true rfl) (by omega) rfl (by exact Nat.le_of_ble_eq_true rfl) (by omega) (by omega) dX1_copies_32 rfl ((ni_X2 hg (by omega) (by rw [List.length_append]; rfl) l_at_last ?_))
      intro h2 g2 S2 _ _
      have l2 : h2.length = hyy.length + 8 := by rw [g2.1, List.length_append]; rfl
      have k2 : ∀ a, a < hyy.length → h2[a]? = hyy[a]? := fun a ha => (g2.2 a (by omega) (by rw [List.length_append]; omega)).trans (List.getElem?_append_left ha)
      have sk5 : cs_st h2 (dsF.getD k 0) nap (ps.getD k ([], [], [])) := sk4.kp (fun j c hj _ e => (k2 _ (by have := slt j hj; omega)).trans e)
      have hsv : sv_ok n (ps.getD k ([], [], [])) := hv _ (by
        rw [List.getD_eq_getElem?_getD, List.getElem?_eq_getElem (by omega)]; exact List.getElem_mem _)
      refine nd_astore hC dX1_copies_35 (Nat.le_of_ble_eq_true rfl) rfl ?_
      refine nd_aload hC dX1_copies_37 rfl rfl ?_
      refine nd_aload_n hC dX1_copies_39 rfl rfl ?_
      refine nd_callV (mm2 := mX2_become) (As := [_]) (mc2 := 0) (ms2 := 0) (d2 := d - 1) hC rfl lkX1_91 ⟨rfl, lmX2_become⟩ (S2.1) rfl (Nat.le_of_ble_eq_true rfl) (by omega) rfl (by exact Nat.le_of_ble_eq_true rfl) (by omega) (by omega) dX1_copies_40 rfl ((cs_become hg sk5 S2 (by have := slt 7 (by omega); omega) hsv hn ?_))
      intro h3 f3 s3
      have T3 : cw_lr (ow ox hyy.length 8 (20 + hyy.length)) h3 TA τT ds2 er := HY.1.1.kp (fun _ z => by unfold ow; rw [if_neg (by have := (HY.2.2.2.2.2.2.2.1 er (by omega)).1; omega)]) (fun c e => ((f3.2 TA (by omega)).trans (k2 TA (by omega))).trans e) (fun c _ _ e => ((f3.2 er (by have := nd_get_lt e; omega)).trans (k2 er (nd_get_lt e))).trans e)
      obtain ⟨mT3, eT3, zT3, rT3⟩ : ∃ mT eT zT, h3[TA]? = some (.inr (nJ2, [.int mT, eT, .int zT])) := by
        exact T3.at
      obtain ⟨fr3, bk3, fo3, mn3, S3, -⟩ := id s3
      have hd2 : ds2.length = k := by
        rw [c2, List.length_take]; omega
      refine nd_aload_n hC dX1_copies_43 rfl rfl ?_
      refine nd_aload hC dX1_copies_44 rfl rfl ?_
      refine nd_callV (mm2 := mJ2_add) (As := [_]) (mc2 := 1) (ms2 := 10) (d2 := d - 1) hC rfl lkX1_95 ⟨rfl, lmJ2_add⟩ (rT3) rfl (Nat.le_of_ble_eq_true rfl) (by omega) rfl (by exact Nat.le_of_ble_eq_true rfl) (by omega) (by omega) dX1_copies_46 rfl ((cl_add hg (by omega) (by omega) T3 S3.1 (by rw [f3.1]; omega) (fun a ha => ?_) (fun h4 o4 er4 w4 we l4 e4 b4 k4 => ?_)))
      · rw [f3.1, l2]
        unfold ow at ha
        by_cases z : hyy.length ≤ a ∧ a < hyy.length + 8
        · omega
        · rw [if_neg z] at ha
          have := (HY.2.2.2.2.2.2.2.1 a ha).1
          omega
      · have HZ := HY.step hl hτT2 hTAn l2 k2 f3 s3 w4 we l4 e4 b4 k4
        have ep : ps.take k ++ [ps.getD k ([], [], [])] = ps.take (k + 1) := by
          rw [List.take_succ, List.getD_eq_getElem?_getD, List.getElem?_eq_getElem (by omega)]; rfl
        rw [ep] at HZ
        refine nd_pop hC (by rfl) dX1_copies_49 ?_
        refine nd_goto hC (tgt := 9) dX1_copies_50 (by decide) ?_
        refine nd_widen (by omega) (by omega) (ih h4 o4 er4 _ (.int (nI k)) _ _ HZ ?_ ?_ (by rw [f3.1] at l4; omega))
        · rw [k4 h.length (by rw [f3.1]; omega) (by omega) (by
            rcases T3 with ⟨-, e0, -⟩ | ⟨m, gf, e1, -⟩
            · exact Or.inl e0
            · refine Or.inr (fun q => ?_)
              rw [← q] at e1
              unfold ow at e1
              rw [if_neg (by omega), hox] at e1
              omega), f3.2 _ (by omega), k2 _ (by omega)]
          exact iy
        · rw [e4 h.length (by rw [f3.1]; omega)]
          unfold ow
          rw [if_neg (by omega)]
          exact hox
  have e0 : h1.length = h.length := l1
  rw [e0]
  refine nd_widen (cs2 := 1 + 9 * 0) (ss2 := 4 + 48 * 0) (by omega) (by omega) (LP 0 (Nat.zero_le _) _ o er0 [] (.int (-1)) _ _ I0 ?_ ?_ ?_)
  · rw [← e0]; exact l_at_last
  · have := fun z => hol h.length z
    exact Classical.byContradiction (fun z => by have := hol h.length z; omega)
  · rw [List.length_append, e0]; show h.length < h.length + 1; omega
end CP93

