set_option maxRecDepth 100000
/-! ===== searches for the greatest, for the fewest folds ===== -/
def be_st (s : Option (Int64 × List Nat)) (fw : Int32) (mo : Int64) (bf : Nat → Int32) : Prop := match s with
  | none => fw = -1 ∧ mo = be_min
  | some q => fw = nI q.2.length ∧ mo = q.1 ∧ q.1 ≠ be_min ∧ mo_rw bf q.2 ∧ q.2.length ≤ 5
theorem be_least (v : Int64) : ¬ v < be_min := by
  rw [Int64.lt_iff_toInt_lt]
  have h1 : be_min.toInt = -9223372036854775808 := by decide
  have h2 := Int64.le_toInt v
  omega
theorem nI_ne_m1 {k : Nat} (h : k ≤ 5) : nI k ≠ -1 := by
  intro e
  have := congrArg Int32.toInt e
  rw [nI_toInt (by omega)] at this
  have h2 : (-1 : Int32).toInt = -1 := rfl
  omega
theorem be_iff {val : lv_E → Option Int64} {s : Option (Int64 × List Nat)} {fw : Int32} {mo v : Int64} {bf : Nat → Int32} {x : lv_E} (H : be_st s fw mo bf) (hx : val x = some v) (hv : v ≠ be_min) (h5 : x.1.length ≤ 5) : (be_no v mo fw (nI x.1.length) → bs_see val s x = s) ∧ (¬ be_no v mo fw (nI x.1.length) → bs_see val s x = some (v, x.1)) := by
  unfold bs_see
  rw [hx]
  cases s with
  | none =>
    obtain ⟨e1, e2⟩ := H
    refine ⟨fun h => ?_, fun _ => rfl⟩
    rcases h with h | h
    · rw [e2] at h; exact absurd h (be_least v)
    · rw [e2] at h; exact absurd h.1 hv
  | some q =>
    obtain ⟨e1, e2, e3, e4, e5⟩ := H
    show (_ → (if v < q.1 ∨ (v = q.1 ∧ q.2.length ≤ x.1.length) then some q else some (v, x.1)) = some q) ∧ (_ → (if v < q.1 ∨ (v = q.1 ∧ q.2.length ≤ x.1.length) then some q else some (v, x.1)) = some (v, x.1))
    have ei : be_no v mo fw (nI x.1.length) ↔ (v < q.1 ∨ (v = q.1 ∧ q.2.length ≤ x.1.length)) := by
      unfold be_no
      rw [e1, e2, nI_leI (by omega) (by omega)]
      have := nI_ne_m1 e5
      constructor
      · rintro (h | ⟨h1, h2 | h2⟩)
        · exact Or.inl h
        · exact absurd h2 this
        · exact Or.inr ⟨h1, h2⟩
      · rintro (h | ⟨h1, h2⟩)
        · exact Or.inl h
        · exact Or.inr ⟨h1, Or.inr h2⟩
    exact ⟨fun h => if_pos (ei.mp h), fun h => if_neg (fun z => h (ei.mpr z))⟩
theorem be_rw {rf bf : Nat → Int32} {r : List Nat} (h : mo_rw rf r) (h5 : r.length ≤ 5) : mo_rw (va_cpy rf bf 0 0 5) r := by
  intro i hi
  unfold va_cpy
  rw [if_pos (by omega), Nat.zero_add, Nat.sub_zero]
  exact h i hi
theorem lN1_ne : lN 1 ≠ be_min := by decide
theorem i64_ne (a : Int32) : a.toInt64 ≠ be_min := by
  intro e
  have := congrArg Int64.toInt e
  rw [nd_tl] at this
  have h1 : be_min.toInt = -9223372036854775808 := by decide
  have h2 := Int32.le_toInt a
  omega
theorem be_op {fw : Int32} {mo : Int64} {bf : Nat → Int32} {R : Option (List Nat)} (H : be_st (R.map (fun r => (lN 1, r))) fw mo bf) {x : Int32} (hx : op_isWhat x = true) : be_tell mo fw bf x.toNatClampNeg = op_tR R x ∧ (x.toNatClampNeg = 0 ∨ 10 ≤ x.toNatClampNeg ∧ x.toNatClampNeg < 15) ∧ x = nI x.toNatClampNeg := by
  have hw : x = nI 0 ∨ ∃ w, 10 ≤ w ∧ w < 15 ∧ x = nI w := by
    unfold op_isWhat at hx
    rw [Bool.or_eq_true, decide_eq_true_iff] at hx
    rcases hx with h | h
    · exact Or.inl h
    · unfold op_in at h
      rw [decide_eq_true_iff] at h
      refine Or.inr ⟨x.toInt.toNat, by omega, by omega, ?_⟩
      rw [← Int32.toInt_inj, nI_toInt (by omega)]
      omega
  have hx0 : ∃ w, (w = 0 ∨ 10 ≤ w ∧ w < 15) ∧ x = nI w := by
    rcases hw with h | ⟨w, h1, h2, h3⟩
    · exact ⟨0, Or.inl rfl, h⟩
    · exact ⟨w, Or.inr ⟨h1, h2⟩, h3⟩
  obtain ⟨w, hw2, rfl⟩ := hx0
  rw [nI_cl (by omega)]
  refine ⟨?_, hw2, rfl⟩
  unfold be_tell op_tR
  have ez : (nI w = 0) ↔ w = 0 := by
    constructor
    · intro e
      have := congrArg Int32.toInt e
      rw [nI_toInt (by omega)] at this
      have h2 : (0 : Int32).toInt = 0 := rfl
      omega
    · intro e; subst e; rfl
  cases R with
  | none =>
    obtain ⟨e1, e2⟩ := H
    rw [if_pos e2]
    unfold be_fold
    rw [if_pos e2]
    split <;> rfl
  | some r =>
    obtain ⟨e1, e2, e3, e4, e5⟩ := H
    have e5 : r.length ≤ 5 := e5
    have hne : ¬ mo = be_min := by rw [e2]; exact e3
    show _ = if nI w = 0 then nI r.length else if (nI w).toNatClampNeg - 10 < r.length then nI (r.getD ((nI w).toNatClampNeg - 10) 0) else -1
    rw [if_neg hne, nI_cl (by omega)]
    by_cases z : w = 0
    · rw [if_pos z, if_pos (ez.mpr z)]; exact e1
    · rw [if_neg z, if_neg (fun q => z (ez.mp q))]
      unfold be_fold
      rw [if_neg hne, e1]
      show (if nI (w - 10) < nI r.length then bf (w - 10) else -1) = _
      by_cases z2 : w - 10 < r.length
      · rw [if_pos ((nI_ltI (by omega) (by omega)).mpr z2), if_pos z2]; exact e4 _ z2
      · rw [if_neg (fun q => z2 ((nI_ltI (by omega) (by omega)).mp q)), if_neg z2]
section CP39
variable {g : nd_G} {d : Nat} {K : nd_K} {h : nd_H} {o : Nat → Nat} {nap : Nat} {ds : List Nat} {gi : Nat → Value} {dss : Nat → List Nat} {S : sy_S}
theorem cp_soonest (hg : nd_OK g) (hd : 940 ≤ d) (x : Int32) : cp_ok g mX1_soonest d 6 40 [.int x] (ex1 eIAE) (mp_i (op_soonest x)) := by
  intro S h K hS hI hl123 hk0 hk1
  obtain ⟨hs, o, nap, ds, gi, dss, hK⟩ := hI
  obtain ⟨⟨x0, hO⟩, h17, hkk, -⟩ := id hK
  unfold cx_O at hO
  have hok := sy_l_ok hS
  have hwd := lk_width hok
  have hn : sy_n S ≤ 6 := hS.1.1.1
  have h5 := sy_len5 hS
  obtain ⟨sfr, sbk, sfo, smn, hSt, hcv⟩ := id hkk.2.1
  obtain ⟨hSt1, hSt2, hSt3, hSt4⟩ := id hSt
  have hcv : cs_v sfr sbk sfo smn (sy_c S) := hcv
  have hsv : sv_ok (sy_n S) (sy_c S) := hS.1.2.1
  unfold mp_i op_soonest at hk0 hk1
  refine nd_enter hg (by decide) rfl (Nat.le_of_ble_eq_true rfl) (fun X hC => ?_)
  refine nd_iload_n hC dX1_soonest_0 rfl ?_
  refine nd_callS (mm2 := mX1_mustTell) (As := [_]) (mc2 := 1) (ms2 := 6) (d2 := d - 1) hC rfl lkX1_394 lmX1_mustTell (Nat.le_of_ble_eq_true rfl) (by omega) rfl (by exact Nat.le_of_ble_eq_true rfl) (by omega) (by omega) dX1_soonest_1 rfl ((cx_mustTell hg (by omega) (fun hc => ?_) (fun hc n => ?_)))
  · rw [if_pos hc] at hk0
    refine nd_new (ci := nX27) hC [.null, .int 0, .long 0, .null, .null, .null, .null, .null] in_X27 rfl tyX27 tyX27_ok q2192 q2193 q203 rfl rfl (by omega) (by omega) dX1_soonest_4 ?_
    refine nd_dup hC (by rfl) dX1_soonest_7 ?_
    refine nd_aload_n hC dX1_soonest_8 rfl rfl ?_
    refine nd_callI (mm2 := mX27_init) (As := [_]) (mc2 := 2) (ms2 := 10) (d2 := d - 1) hC rfl rfl q2196 q203 q2194 q2195 rfl lmX27_init (Nat.le_of_ble_eq_true rfl) (by omega) rfl (by exact Nat.le_of_ble_eq_true rfl) (by omega) (by omega) dX1_soonest_9 rfl ((ni_X27 hg (by omega) (List.getElem?_concat_length ..) ?_))
    rw [show (h ++ [(.inr (nX27, [.null, .int 0, .long 0, .null, .null, .null, .null, .null]) : nd_C)]).length = h.length + 1 by simp]
    generalize hh1 : ((h ++ [(.inr (nX27, [.null, .int 0, .long 0, .null, .null, .null, .null, .null]) : nd_C)]).set h.length (.inr (nX27, [.ref (h.length + 1 + 1), .int (-1), .long be_min, .ref 0, .ref (h.length + 1), .ref 0, .ref 0, .ref 0])) ++ [.inl (0, 5, .inl (fun _ => 0))]) ++ [.inl (0, 5, .inl (fun _ => 0))] = h1
    have e1 : h1[h.length]? = some (.inr (nX27, [.ref (h.length + 2), .int (-1), .long be_min, .ref 0, .ref (h.length + 1), .ref 0, .ref 0, .ref 0])) := by
      rw [← hh1, List.getElem?_append_left (by simp)]; exact l_get_app (by simp)
    have e2 : h1[h.length + 1]? = some (.inl (0, 5, .inl (fun _ => 0))) := by
      rw [← hh1, List.getElem?_append_left (by simp), List.getElem?_append_right (by simp)]; simp
    have e3 : h1[h.length + 2]? = some (.inl (0, 5, .inl (fun _ => 0))) := by
      rw [← hh1, List.getElem?_append_right (by simp)]; simp
    have f1 : cw_f h h1 := by
      rw [← hh1]
      exact cw_f.app (cw_f.app (cw_f.set (cw_f.app cw_f.rfl) (Or.inl (Nat.le_refl _))))
    have hs1 : cw_S h1 := by
      rw [← hh1]
      exact cw_S.app (cw_S.app (cw_S.set hs.app (by omega)))
    refine nd_astore_n hC dX1_soonest_12 (Nat.le_of_ble_eq_true rfl) rfl ?_
    refine nd_aload_n hC dX1_soonest_13 rfl rfl ?_
    refine nd_iconst hC (v := nI 0) (by rfl) dX1_soonest_14 ?_
    refine nd_iconst hC (v := nI 5) (by rfl) dX1_soonest_15 ?_
    refine nd_callU (mm2 := mX20_seeks) (As := [_, _]) (mc2 := 0) (ms2 := 0) (d2 := d - 1) (owner := "NapkinDeeds$Rows") (x := ⟨"NapkinDeeds$Fewest", "seeks", "(ZI)LNapkinDeeds$Rows;"⟩) (n := 2) hC rfl (va_cwU 2 hC.hts (lw_U q2214 q2215 q2217 q812 q190 q813) rfl rfl rfl rfl ⟨by decide, by decide, by decide +kernel⟩ (nd_roomR (by omega) (by decide))) (e1) rfl (Nat.le_of_ble_eq_true rfl) (by omega) rfl (by exact Nat.le_of_ble_eq_true rfl) (by omega) (by omega) dX1_soonest_16 rfl ((cw_seek (fl := false) (most := 5) (d0 := 920) (b := h.length) (rb := h.length + 1) (ci := nX27) (σ := Option (Int64 × List Nat)) (s0 := none) (see := bs_see (fw_val (sy_holds S))) (Bd := fun _ => True) (Ob := fun s h2 => ∃ fw mo bf, h2[h.length]? = some (.inr (nX27, [.ref (h.length + 2), .int fw, .long mo, .ref 0, .ref (h.length + 1), .ref 0, .ref 0, .ref 0])) ∧ (∃ f, h2[h.length + 1]? = some (.inl (0, 5, .inl f))) ∧ h2[h.length + 2]? = some (.inl (0, 5, .inl bf)) ∧ be_st s fw mo bf) hg (by omega) (by omega) (Nat.le_refl 5) hS hK hl123 hs1 f1 (by omega) (by omega) ?_ ?_ ?_ ⟨_, _, _, e1, ⟨_, e2⟩, e3, rfl, rfl⟩ ?_ (fun h2 H hs2 f2 hl2 => ?_)))
    · intro s h2 H
      obtain ⟨fw, mo, bf, H1, H2, -⟩ := H
      exact ⟨⟨4, _, Or.inr (Or.inr (Or.inr (Or.inr (Or.inr (Or.inr (Or.inr (Or.inl ⟨rfl, rfl⟩))))))), H1, rfl, rfl⟩, H2⟩
    · intro s h2 h3 H hl hf hr
      obtain ⟨fw, mo, bf, H1, H2, H3, H4⟩ := H
      exact ⟨fw, mo, bf, (hf _ (by omega) (by omega)).trans H1, hr, (hf _ (by omega) (by omega)).trans H3, H4⟩
    · intro d2 hd2 s r l h2 K2 hB H hs2 f2 hl hokl hrw hr5 kk
      obtain ⟨fw, mo, bf, H1, -, H3, H4⟩ := H
      obtain ⟨rf, H2, hrf⟩ := hrw
      have hK2 := hK.f f2
      have hfq : ∀ h3, ck_fr 94 1 h2 h3 → cw_f h h3 := fun h3 q => f2.trans (q.cwf (fun a a1 a2 => by unfold cw_sc; omega))
      have keep : ∀ h3, ck_fr 94 1 h2 h3 → cw_S h3 → bs_see (fw_val (sy_holds S)) s (r, l) = s → K2 (.inl none) h3 := by
        intro h3 q1 q2 es
        refine kk h3 ?_ q2 (hfq h3 q1) q1.1 (fun a ha => q1.2 a (by omega))
        rw [es]
        exact ⟨fw, mo, bf, (q1.2 _ (by omega)).trans H1, ⟨rf, (q1.2 _ (by omega)).trans H2⟩, (q1.2 _ (by omega)).trans H3, H4⟩
      have take : ∀ h3 v, ck_fr 94 1 h2 h3 → cw_S h3 → v ≠ be_min → bs_see (fw_val (sy_holds S)) s (r, l) = some (v, r) → K2 (.inl none) ((h3.set (h.length) (.inr (nX27, [.ref (h.length + 2), .int (nI r.length), .long v, .ref 0, .ref (h.length + 1), .ref 0, .ref 0, .ref 0]))).set (h.length + 2) (.inl (0, 5, .inl (va_cpy rf bf 0 0 5)))) := by
        intro h3 v q1 q2 hv es
        have l1 : h.length < h3.length := by rw [q1.1]; exact nd_get_lt H1
        have l3 : h.length + 2 < h3.length := by rw [q1.1]; exact nd_get_lt H3
        refine kk _ ?_ ((q2.set (by omega)).set (by omega)) (((hfq h3 q1).set (Or.inl (by omega))).set (Or.inl (by omega))) (by rw [List.length_set, List.length_set]; exact q1.1) (fun a ha => by rw [List.getElem?_set_ne (by omega), List.getElem?_set_ne (by omega)]; exact q1.2 a (by omega))
        rw [es]
        refine ⟨nI r.length, v, va_cpy rf bf 0 0 5, ?_, ⟨rf, ?_⟩, List.getElem?_set_self (by rw [List.length_set]; exact l3), rfl, rfl, hv, be_rw hrf hr5, hr5⟩
        · rw [List.getElem?_set_ne (by omega)]; exact List.getElem?_set_self l1
        · rw [List.getElem?_set_ne (by omega), List.getElem?_set_ne (by omega)]; exact (q1.2 _ (by omega)).trans H2
      have hE : ∀ h3, ck_fr 94 1 h2 h3 → cw_S h3 → ∀ d3 K3, d2 ≤ d3 + 3 → (∀ h4, (ck_fr 94 1 h2 h4 ∧ cw_S h4) → K3 (.inl (some (.int (nd_b ((sy_holds S) (r, l)))))) h4) → nd_M g mX27_isSo d3 0 0 [.ref (h.length), .ref (18 + 9 * r.length), .int (nI (cr_fo (sy_c S) false + r.length))] h3 K3 := by
        intro h3 q1 q2 d3 K3 hd3 kq
        have hK3 := hK.f (hfq h3 q1)
        have hl3 := hl.fr q1 (by omega)
        have H13 := (q1.2 _ (by omega)).trans H1
        exact cq_soX27 hg (by omega) (hK3.P q2) hsv hS.1.1 hl3 (by omega) hokl H13 (fun h4 f4 hP4 => kq h4 ⟨q1.trans f4, hP4.S q2 (fun a ha => f4.2 a (by omega))⟩)
      refine Or.inr (Or.inr (Or.inl ⟨nX27, _, Or.inl rfl, H1, cf_seesX27 (Q := fun h3 => ck_fr 94 1 h2 h3 ∧ cw_S h3) (v := (sy_holds S) (r, l)) hg (by omega) H1 (fun K3 kq => hE h2 ck_fr.rfl hs2 (d2 - 1) K3 (by omega) kq) (fun h3 q => q.1.2 _ (by omega)) (fun hv h3 q => keep h3 q.1 q.2 (by unfold bs_see fw_val; rw [if_neg (by rw [hv]; decide)])) (fun hv h3 K3 q kq => ?_)⟩))
      have hvx : (fw_val (sy_holds S)) (r, l) = some (lN 1) := by unfold fw_val; rw [if_pos hv]
      have B := be_iff H4 hvx lN1_ne hr5
      refine cb_seesX27 (Q := fun h4 => ck_fr 94 1 h2 h4 ∧ cw_S h4) (v := lN 1) (f := rf) (bf := bf) hg (by omega) ((q.1.2 _ (by omega)).trans H1) ⟨by omega, by omega⟩ (fun K4 kq4 => ?_) (fun h4 q4 => ?_) (fun hno h4 q4 => kq h4 (keep h4 q4.1 q4.2 (B.1 hno))) (fun hno h4 q4 => kq _ (take h4 (lN 1) q4.1 q4.2 lN1_ne (B.2 hno)))
      · refine cf_valueX27 (Q := fun h4 => ck_fr 94 1 h2 h4 ∧ cw_S h4) (v := true) hg (by omega) ((q.1.2 _ (by omega)).trans H1) (fun K5 kq5 => ?_) (fun h4 q4 => kq4 h4 q4)
        have M := hE h3 q.1 q.2 (d2 - 1 - 1 - 1) K5 (by omega)
        rw [hv] at M
        exact M kq5
      · exact ⟨(q4.1.2 _ (by omega)).trans (q.1.2 _ (by omega)).symm, (q4.1.2 _ (by omega)).trans H2, (q4.1.2 _ (by omega)).trans H3⟩
    · exact df_B_T _ _ _
    · obtain ⟨fw, mo, bf, H1, H2, H3, H4⟩ := H
      have hK2 := hK.f f2
      rw [fd_eq] at H4
      obtain ⟨o1, o2, o3⟩ := be_op H4 hc
      refine nd_pop hC (by rfl) dX1_soonest_19 ?_
      refine nd_aload_n hC dX1_soonest_20 rfl rfl ?_
      refine nd_iload_n hC dX1_soonest_21 rfl ?_
      rw [o3]
      refine nd_callU (mm2 := mX26_tells) (As := [_]) (mc2 := 0) (ms2 := 0) (d2 := d - 1) (owner := "NapkinDeeds$Fewest") (x := ⟨"NapkinDeeds$Fewest", "tells", "(I)I"⟩) (n := 1) hC rfl (va_cwU 1 hC.hts (lw_U q2220 q2222 q2224 q2221 q202 q2227) rfl rfl rfl rfl ⟨by decide, by decide, by decide +kernel⟩ (nd_roomR (by omega) (by decide))) (H1) rfl (Nat.le_of_ble_eq_true rfl) (by omega) rfl (by exact Nat.le_of_ble_eq_true rfl) (by omega) (by omega) dX1_soonest_22 rfl ((be_tellsX27 hg (by omega) o2 H1 H3 ?_))
      rw [o1]
      refine nd_ireturn hC rfl (by first | rfl | exact nd_b_nar _) (by omega) (by omega) dX1_soonest_25 ((hk0 rfl h2 ⟨hs2, o, nap, ds, gi, dss, hK2⟩ (f2.fr hl123)))
  · rw [if_neg (by rw [hc]; decide)] at hk1
    exact nd_out hC rfl (by omega) (by omega) (hk1 (Nat.succ_ne_zero _) _ _ ⟨hs.app, o, nap, ds, gi, dss, hK.f cw_f.rfl.app⟩ (cw_f.rfl.app.fr hl123))
end CP39

