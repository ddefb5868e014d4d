set_option maxRecDepth 100000
/-! ===== simple, patterns ===== -/
theorem od_iff {l1 l2 : List (List Nat)} : ∀ k, (∀ i, i < k → (l1.getD 0 []).getD i 0 / 2 < 6 ∧ (l2.getD 0 []).getD i 0 / 2 < 6) → (cq_ord l1 k = cq_ord l2 k ↔ lk_ord l1 k = lk_ord l2 k) := by
  intro k
  induction k with
  | zero => intro _; exact ⟨fun _ => rfl, fun _ => rfl⟩
  | succ k ih =>
    intro h
    have h1 := h k (by omega)
    have h2 := ih (fun i hi => h i (by omega))
    show 6 * cq_ord l1 k + (l1.getD 0 []).getD k 0 / 2 = 6 * cq_ord l2 k + (l2.getD 0 []).getD k 0 / 2 ↔ 8 * lk_ord l1 k + (l1.getD 0 []).getD k 0 / 2 = 8 * lk_ord l2 k + (l2.getD 0 []).getD k 0 / 2
    constructor
    · intro e
      have := h2.mp (by omega)
      omega
    · intro e
      have := h2.mpr (by omega)
      omega
theorem od_lt {l : List (List Nat)} : ∀ k, (∀ i, i < k → (l.getD 0 []).getD i 0 / 2 < 6) → lk_ord l k < 8 ^ k := by
  intro k
  induction k with
  | zero => intro _; exact Nat.one_pos
  | succ k ih =>
    intro h
    have h1 := h k (by omega)
    have h2 := ih (fun i hi => h i (by omega))
    show 8 * lk_ord l k + (l.getD 0 []).getD k 0 / 2 < 8 ^ (k + 1)
    rw [Nat.pow_succ]
    omega
theorem od_code {n : Nat} {l1 l2 : List (List Nat)} (k1 : lk_ok n l1) (k2 : lk_ok n l2) (hn : n ≤ 6) (w1 : l1.length < 2) (w2 : l2.length < 2) : lN (cq_ord l1 (if 0 < l1.length then (l1.getD 0 []).length else 0)) = lN (cq_ord l2 (if 0 < l2.length then (l2.getD 0 []).length else 0)) ↔ lN (lk_ord l1 n) = lN (lk_ord l2 n) := by
  have hk : ∀ {l : List (List Nat)}, lk_ok n l → l.length < 2 → (if 0 < l.length then (l.getD 0 []).length else 0) = n := by
    intro l k w
    have q := lk_one_col k (by omega)
    by_cases z : 0 < l.length
    · rw [if_pos z]; exact q.2
    · rw [if_neg z]
      rcases Nat.eq_zero_or_pos n with y | y
      · exact y.symm
      · exact absurd (q.1 y) z
  have hd : ∀ {l : List (List Nat)}, lk_ok n l → l.length < 2 → ∀ i, i < n → (l.getD 0 []).getD i 0 / 2 < 6 := by
    intro l k w i hi
    have q := lk_one_col k (by omega)
    have M := lk_at_lt k hn (lk_col_at k (t := 0) (i := i) (q.1 (by omega)) (by omega))
    omega
  rw [hk k1 w1, hk k2 w2]
  have b1 : ∀ {l : List (List Nat)}, lk_ok n l → l.length < 2 → cq_ord l n < 2 ^ 63 := fun {l} k w => by
    have h1 := cq_ord_lt n (hd k w)
    have h2 : 6 ^ n ≤ 6 ^ 6 := Nat.pow_le_pow_right (by decide) hn
    have h3 : 6 ^ 6 < 2 ^ 63 := by decide
    omega
  have b2 : ∀ {l : List (List Nat)}, lk_ok n l → l.length < 2 → lk_ord l n < 2 ^ 63 := fun {l} k w => by
    have h1 := od_lt n (hd k w)
    have h2 : 8 ^ n ≤ 8 ^ 6 := Nat.pow_le_pow_right (by decide) hn
    have h3 : 8 ^ 6 < 2 ^ 63 := by decide
    omega
  have E := od_iff (l1 := l1) (l2 := l2) n (fun i hi => ⟨hd k1 w1 i hi, hd k2 w2 i hi⟩)
  constructor
  · intro e; rw [E.mp (lN_inj (b1 k1 w1) (b1 k2 w2) e)]
  · intro e; rw [E.mpr (lN_inj (b2 k1 w1) (b2 k2 w2) e)]
theorem crs_lt (l : List (List Nat)) : ∀ k, lk_crs l k < 3 ^ k := by
  intro k
  induction k with
  | zero => exact Nat.one_pos
  | succ k ih =>
    have h1 := lk_cr_le l k
    show 3 * lk_crs l k + lk_cr l k < 3 ^ (k + 1)
    rw [Nat.pow_succ]
    omega
theorem crs_lN {n : Nat} (hn : n ≤ 6) (l : List (List Nat)) : (nI (lk_crs l (n - 1))).toInt64 = lN (lk_crs l (n - 1)) := by
  have h1 := crs_lt l (n - 1)
  have h2 : 3 ^ (n - 1) ≤ 3 ^ 5 := Nat.pow_le_pow_right (by decide) (by omega)
  have h3 : 3 ^ 5 = 243 := by decide
  refine lN_of_toInt ?_ (by omega)
  rw [nd_tl, nI_toInt (by omega)]
section CP37
variable {g : nd_G} {d : Nat} {K : nd_K} {h : nd_H} {o : Nat → Nat} {nap : Nat} {ds : List Nat} {gi : Nat → Value} {dss : Nat → List Nat} {S : sy_S}
theorem cp_simple (hg : nd_OK g) (hd : 420 ≤ d) : cp_ok g mX1_simple d 1210 80040 [] (ex1 eIAE) (mp_i (op_simple)) := by
  intro S h K hS hI hl123 hk0 hk1
  obtain ⟨hs, o, nap, ds, gi, dss, hK⟩ := hI
  obtain ⟨⟨x0, hO⟩, h17, hkk, -⟩ := id hK
  unfold cx_O at hO
  have hok := sy_l_ok hS
  have hwd := lk_width hok
  have hn : sy_n S ≤ 6 := hS.1.1.1
  have h5 := sy_len5 hS
  obtain ⟨sfr, sbk, sfo, smn, hSt, hcv⟩ := id hkk.2.1
  obtain ⟨hSt1, hSt2, hSt3, hSt4⟩ := id hSt
  have hcv : cs_v sfr sbk sfo smn (sy_c S) := hcv
  have hsv : sv_ok (sy_n S) (sy_c S) := hS.1.2.1
  unfold mp_i op_simple op_flat at hk0 hk1
  refine nd_enter hg (by decide) rfl (Nat.le_of_ble_eq_true rfl) (fun X hC => ?_)
  refine nd_new (ci := nX32) hC [.int 0, .null, .null, .null, .null] in_X32 rfl tyX32 tyX32_ok q1064 q1065 q208 rfl rfl (by omega) (by omega) dX1_simple_0 ?_
  refine nd_dup hC (by rfl) dX1_simple_3 ?_
  refine nd_aload_n hC dX1_simple_4 rfl rfl ?_
  refine nd_callI (mm2 := mX32_init) (As := [_]) (mc2 := 1) (ms2 := 5) (d2 := d - 1) hC rfl rfl q1068 q208 q1066 q1067 rfl lmX32_init (Nat.le_of_ble_eq_true rfl) (by omega) rfl (by exact Nat.le_of_ble_eq_true rfl) (by omega) (by omega) dX1_simple_5 rfl ((ni_X32 hg (by omega) (List.getElem?_concat_length ..) ?_))
  rw [show (h ++ [(.inr (nX32, [.int 0, .null, .null, .null, .null]) : nd_C)]).length = h.length + 1 by simp]
  generalize hh1 : (h ++ [(.inr (nX32, [.int 0, .null, .null, .null, .null]) : nd_C)]).set h.length (.inr (nX32, [.int 0, .ref 0, .ref (h.length + 1), .ref 0, .ref 0])) ++ [.inl (0, 5, .inl (fun _ => 0))] = h1
  have e1 : h1[h.length]? = some (.inr (nX32, [.int (nI 0), .ref 0, .ref (h.length + 1), .ref 0, .ref 0])) := by
    rw [← hh1]; exact l_get_app (by simp)
  have e2 : h1[h.length + 1]? = some (.inl (0, 5, .inl (fun _ => 0))) := by
    rw [← hh1, List.getElem?_append_right (by simp)]; simp
  have f1 : cw_f h h1 := by
    rw [← hh1]
    exact (cw_f.app (cw_f.set (cw_f.app cw_f.rfl) (Or.inl (Nat.le_refl _))))
  have hs1 : cw_S h1 := by
    rw [← hh1]
    exact cw_S.app (cw_S.set hs.app (by omega))
  obtain ⟨cf0, hcf0⟩ := id hs1.2.2.2
  have hdl := df_le (m := 5) (Nat.le_refl 5) (cr_l0_ok hS true) hn
  generalize hLL : (df 5 [] (cr_l0 (sy_N S) (sy_c S) true)).foldl (uk_see (fun x => decide (x.2.length < 2)) (fun x => lN (cq_ord x.2 (if 0 < x.2.length then (x.2.getD 0 []).length else 0)))) [] = LL
  have hLlen : LL.length ≤ 27925 := by
    rw [← hLL]; exact Nat.le_trans (uk_len _ _ _) hdl
  refine nd_astore_n hC dX1_simple_8 (Nat.le_of_ble_eq_true rfl) rfl ?_
  refine nd_aload_n hC dX1_simple_9 rfl rfl ?_
  refine nd_iconst hC (v := nI 1) (by rfl) dX1_simple_10 ?_
  refine nd_iconst hC (v := nI 5) (by rfl) dX1_simple_11 ?_
  refine nd_callU (mm2 := mX20_seeks) (As := [_, _]) (mc2 := 0) (ms2 := 0) (d2 := d - 1) (owner := "NapkinDeeds$Rows") (x := ⟨"NapkinDeeds$Unlike", "seeks", "(ZI)LNapkinDeeds$Rows;"⟩) (n := 2) hC rfl (va_cwU 2 hC.hts (lw_U q1085 q1086 q1091 q812 q190 q813) rfl rfl rfl rfl ⟨by decide, by decide, by decide +kernel⟩ (nd_roomR (by omega) (by decide))) (e1) rfl (Nat.le_of_ble_eq_true rfl) (by omega) rfl (by exact Nat.le_of_ble_eq_true rfl) (by omega) (by omega) dX1_simple_12 rfl ((cw_seek (fl := true) (most := 5) (d0 := 400) (b := h.length) (rb := h.length + 1) (ci := nX32) (σ := List Int64) (s0 := []) (see := uk_see (fun x => decide (x.2.length < 2)) (fun x => lN (cq_ord x.2 (if 0 < x.2.length then (x.2.getD 0 []).length else 0)))) (Bd := fun s => s.length < 28000) (Ob := fun s h2 => h2[h.length]? = some (.inr (nX32, [.int (nI s.length), .ref 0, .ref (h.length + 1), .ref 0, .ref 0])) ∧ (∃ f, h2[h.length + 1]? = some (.inl (0, 5, .inl f))) ∧ ∃ cf, h2[100]? = some (.inl (1, 28000, .inr (.inl cf))) ∧ ∀ i, i < s.length → cf i = s.getD i 0) hg (by omega) (by omega) (Nat.le_refl 5) hS hK hl123 hs1 f1 (by omega) (by omega) ?_ ?_ ?_ ⟨e1, ⟨_, e2⟩, cf0, hcf0, fun i hi => absurd hi (Nat.not_lt_zero _)⟩ ?_ (fun h2 H hs2 f2 hl2 => ?_)))
  · exact fun s h2 H => ⟨⟨2, _, Or.inr (Or.inr (Or.inr (Or.inr (Or.inl ⟨rfl, rfl⟩)))), H.1, rfl, rfl⟩, H.2.1⟩
  · intro s h2 h3 H hl hf hr
    obtain ⟨H1, H2, cf, H3, H4⟩ := H
    exact ⟨(hf _ (by omega) (by omega)).trans H1, hr, cf, (hf _ (by omega) (by omega)).trans H3, H4⟩
  · intro d2 hd2 s r l h2 K2 hB H hs2 f2 hl hokl hrw hr5 kk
    obtain ⟨H1, ⟨rf, H2⟩, cf, H3, H4⟩ := H
    have hK2 := hK.f f2
    have hfq : ∀ h3, ck_fr 94 1 h2 h3 → cw_f h h3 := fun h3 q => f2.trans (q.cwf (fun a a1 a2 => by unfold cw_sc; omega))
    refine Or.inr (Or.inl ⟨nX32, _, Or.inr (Or.inr (Or.inl rfl)), H1, cu_seesX32 (Q := fun h3 => ck_fr 94 1 h2 h3 ∧ cw_S h3) (v := (fun x => decide (x.2.length < 2)) (r, l)) (cd := (fun x => lN (cq_ord x.2 (if 0 < x.2.length then (x.2.getD 0 []).length else 0))) (r, l)) (cf := cf) hg (by omega) H1 (by omega) (fun K3 kq => ?_) (fun h3 q => ?_) (fun hv h3 K3 q kq => ?_) (fun hv => hB) (fun hv h3 q => ?_) (fun hv h3 q => ?_)⟩)
    · refine cq_soX32 hg hl hokl hn ?_
      rw [show decide (l.length ≤ 1) = decide (l.length < 2) from decide_eq_decide.mpr (by omega)]
      exact kq h2 ⟨ck_fr.rfl, hs2⟩
    · obtain ⟨⟨x9, hO9⟩, -⟩ := id (hK.f (hfq h3 q.1))
      exact ⟨q.1.2 _ (by omega), ⟨_, _, _, _, hO9⟩, (q.1.2 100 (by omega)).trans H3⟩
    · exact cq_codeX32 hg (hl.fr q.1 (by omega)) hokl hn kq
    · refine kk h3 ?_ q.2 (hfq h3 q.1) q.1.1 (fun a ha => q.1.2 a (by omega))
      have es : uk_see (fun x => decide (x.2.length < 2)) (fun x => lN (cq_ord x.2 (if 0 < x.2.length then (x.2.getD 0 []).length else 0))) s (r, l) = s := by unfold uk_see; rw [if_neg (by rw [hv]; decide)]
      rw [es]
      exact ⟨(q.1.2 _ (by omega)).trans H1, ⟨rf, (q.1.2 _ (by omega)).trans H2⟩, cf, (q.1.2 _ (by omega)).trans H3, H4⟩
    · have es : uk_see (fun x => decide (x.2.length < 2)) (fun x => lN (cq_ord x.2 (if 0 < x.2.length then (x.2.getD 0 []).length else 0))) s (r, l) = s ++ [(fun x => lN (cq_ord x.2 (if 0 < x.2.length then (x.2.getD 0 []).length else 0))) (r, l)] := by unfold uk_see; rw [if_pos hv]
      have hbl : h.length < (h3.set 100 (.inl (1, 28000, .inr (.inl (vp_updL cf s.length ((fun x => lN (cq_ord x.2 (if 0 < x.2.length then (x.2.getD 0 []).length else 0))) (r, l))))))).length := by
        rw [List.length_set, q.1.1]; exact nd_get_lt H1
      have h100 : 100 < h3.length := by rw [q.1.1]; exact nd_get_lt H3
      refine kk _ ?_ (q.2.c100.set (by omega)) (((hfq h3 q.1).set (Or.inr (by unfold cw_sc; omega))).set (Or.inl (by omega))) (by rw [List.length_set, List.length_set]; exact q.1.1) (fun a ha => by rw [List.getElem?_set_ne (by omega), List.getElem?_set_ne (by omega)]; exact q.1.2 a (by omega))
      rw [es, List.length_append]
      refine ⟨List.getElem?_set_self hbl, ⟨rf, ?_⟩, vp_updL cf s.length ((fun x => lN (cq_ord x.2 (if 0 < x.2.length then (x.2.getD 0 []).length else 0))) (r, l)), ?_, fun i hi => ?_⟩
      · rw [List.getElem?_set_ne (by omega), List.getElem?_set_ne (by omega)]; exact (q.1.2 _ (by omega)).trans H2
      · rw [List.getElem?_set_ne (by omega)]; exact List.getElem?_set_self h100
      · by_cases z : i = s.length
        · subst z; rw [uL_s]; simp
        · have hi2 : i < s.length := by
            have h9 : i < s.length + 1 := hi
            omega
          rw [uL_n z, H4 i hi2, List.getD_eq_getElem?_getD, List.getD_eq_getElem?_getD, List.getElem?_append_left hi2]
  · refine df_B_n _ List.length 28000 (fun s x => ?_) _ [] ?_
    · unfold uk_see
      split
      · rw [List.length_append]; exact Nat.le_refl _
      · omega
    · show 0 + _ ≤ 28000
      omega
  · rw [hLL] at H
    obtain ⟨H1, H2, cf, H3, H4⟩ := H
    have hK2 := hK.f f2
    obtain ⟨⟨x9, hO9⟩, -⟩ := id hK2
    have h100 := nd_get_lt H3
    refine nd_pop hC (by rfl) dX1_simple_15 ?_
    refine nd_aload_n hC dX1_simple_16 rfl rfl ?_
    refine nd_callU (mm2 := mX23_unlike) (As := []) (mc2 := 1200) (ms2 := 80000) (d2 := d - 1) (owner := "NapkinDeeds$Unlike") (x := ⟨"NapkinDeeds$Unlike", "unlike", "()I"⟩) (n := 0) hC rfl (va_cwU 0 hC.hts (lw_U q1092 q1094 q1099 q1093 q193 q1100) rfl rfl rfl rfl ⟨by decide, by decide, by decide +kernel⟩ (nd_roomR (by omega) (by decide))) (H1) rfl (Nat.le_of_ble_eq_true rfl) (by omega) rfl (by exact Nat.le_of_ble_eq_true rfl) (by omega) (by omega) dX1_simple_17 rfl ((cu_unlikeX32 (Q := fun fz hz => ∃ hx, so_e h2 hx 1200 80000 ∧ so_p 0 LL.length cf fz ∧ so_s 0 LL.length fz ∧ hz = hx.set 100 (.inl (1, 28000, .inr (.inl fz)))) hg (by omega) (by omega) H1 ⟨_, _, _, _, hO9⟩ (fun K3 kq => ?_) (fun fz hz q => ?_) (fun fz hz q => ?_)))
    · have M := so_arrays (K := K3) (A := 100) (n := 28000) (h := h2) (d := d - 1 - 1) (hi := LL.length) (f := cf) hg (Nat.le_refl _) h100 (by omega) (by omega) (fun hx fz a1 a2 a3 => kq fz _ ⟨hx, a1, a2, a3, rfl⟩)
      rw [l_set_id H3] at M
      exact M
    · obtain ⟨hx, a1, a2, a3, a4⟩ := q
      subst a4
      have hbl := nd_get_lt H1
      have h0l := nd_get_lt hO9
      exact ⟨(List.getElem?_set_ne (by omega)).trans (a1.1.2 _ hbl), (List.getElem?_set_ne (by omega)).trans (a1.1.2 _ h0l), List.getElem?_set_self (Nat.lt_of_lt_of_le h100 a1.le)⟩
    · obtain ⟨hx, a1, a2, a3, a4⟩ := q
      subst a4
      have ev : su_cnt fz LL.length = un_n (fun x => decide (x.2.length < 2)) (fun x => lN (lk_ord x.2 (sy_n S))) (lv_all 5 (cr_l0 (sy_N S) (sy_c S) true)) := uk_count (P := fun x => lk_ok (sy_n S) x.2) (c1 := fun x => lN (cq_ord x.2 (if 0 < x.2.length then (x.2.getD 0 []).length else 0))) (fun x y hx1 hy1 q1 q2 => od_code hx1 hy1 hn (of_decide_eq_true q1) (of_decide_eq_true q2)) (fun x hx1 => (lv_all_ok (cr_l0_ok hS true) x hx1).1) (by rw [hLL]) (fun i hi => by rw [hLL]; exact H4 i hi) a2 a3
      rw [ev]
      refine nd_ireturn hC rfl (by first | rfl | exact nd_b_nar _) (by omega) (by omega) dX1_simple_20 ((hk0 rfl _ ⟨(hs2.ext a1.1), o, nap, ds, gi, dss, ((hK.f f2).f a1.1.cwf)⟩ ((f2.trans a1.1.cwf).fr hl123)))
theorem cp_patterns (hg : nd_OK g) (hd : 420 ≤ d) : cp_ok g mX1_patterns d 1210 80040 [] (ex1 eIAE) (mp_i (op_patterns)) := by
  intro S h K hS hI hl123 hk0 hk1
  obtain ⟨hs, o, nap, ds, gi, dss, hK⟩ := hI
  obtain ⟨⟨x0, hO⟩, h17, hkk, -⟩ := id hK
  unfold cx_O at hO
  have hok := sy_l_ok hS
  have hwd := lk_width hok
  have hn : sy_n S ≤ 6 := hS.1.1.1
  have h5 := sy_len5 hS
  obtain ⟨sfr, sbk, sfo, smn, hSt, hcv⟩ := id hkk.2.1
  obtain ⟨hSt1, hSt2, hSt3, hSt4⟩ := id hSt
  have hcv : cs_v sfr sbk sfo smn (sy_c S) := hcv
  have hsv : sv_ok (sy_n S) (sy_c S) := hS.1.2.1
  unfold mp_i op_patterns op_flat at hk0 hk1
  refine nd_enter hg (by decide) rfl (Nat.le_of_ble_eq_true rfl) (fun X hC => ?_)
  refine nd_new (ci := nX35) hC [.int 0, .null, .null, .null, .null] in_X35 rfl tyX35 tyX35_ok q1503 q1504 q211 rfl rfl (by omega) (by omega) dX1_patterns_0 ?_
  refine nd_dup hC (by rfl) dX1_patterns_3 ?_
  refine nd_aload_n hC dX1_patterns_4 rfl rfl ?_
  refine nd_callI (mm2 := mX35_init) (As := [_]) (mc2 := 1) (ms2 := 5) (d2 := d - 1) hC rfl rfl q1507 q211 q1505 q1506 rfl lmX35_init (Nat.le_of_ble_eq_true rfl) (by omega) rfl (by exact Nat.le_of_ble_eq_true rfl) (by omega) (by omega) dX1_patterns_5 rfl ((ni_X35 hg (by omega) (List.getElem?_concat_length ..) ?_))
  rw [show (h ++ [(.inr (nX35, [.int 0, .null, .null, .null, .null]) : nd_C)]).length = h.length + 1 by simp]
  generalize hh1 : (h ++ [(.inr (nX35, [.int 0, .null, .null, .null, .null]) : nd_C)]).set h.length (.inr (nX35, [.int 0, .ref 0, .ref (h.length + 1), .ref 0, .ref 0])) ++ [.inl (0, 5, .inl (fun _ => 0))] = h1
  have e1 : h1[h.length]? = some (.inr (nX35, [.int (nI 0), .ref 0, .ref (h.length + 1), .ref 0, .ref 0])) := by
    rw [← hh1]; exact l_get_app (by simp)
  have e2 : h1[h.length + 1]? = some (.inl (0, 5, .inl (fun _ => 0))) := by
    rw [← hh1, List.getElem?_append_right (by simp)]; simp
  have f1 : cw_f h h1 := by
    rw [← hh1]
    exact (cw_f.app (cw_f.set (cw_f.app cw_f.rfl) (Or.inl (Nat.le_refl _))))
  have hs1 : cw_S h1 := by
    rw [← hh1]
    exact cw_S.app (cw_S.set hs.app (by omega))
  obtain ⟨cf0, hcf0⟩ := id hs1.2.2.2
  have hdl := df_le (m := 5) (Nat.le_refl 5) (cr_l0_ok hS true) hn
  generalize hLL : (df 5 [] (cr_l0 (sy_N S) (sy_c S) true)).foldl (uk_see (fun _ => true) (fun x => (nI (lk_crs x.2 (sy_n S - 1))).toInt64)) [] = LL
  have hLlen : LL.length ≤ 27925 := by
    rw [← hLL]; exact Nat.le_trans (uk_len _ _ _) hdl
  refine nd_astore_n hC dX1_patterns_8 (Nat.le_of_ble_eq_true rfl) rfl ?_
  refine nd_aload_n hC dX1_patterns_9 rfl rfl ?_
  refine nd_iconst hC (v := nI 1) (by rfl) dX1_patterns_10 ?_
  refine nd_iconst hC (v := nI 5) (by rfl) dX1_patterns_11 ?_
  refine nd_callU (mm2 := mX20_seeks) (As := [_, _]) (mc2 := 0) (ms2 := 0) (d2 := d - 1) (owner := "NapkinDeeds$Rows") (x := ⟨"NapkinDeeds$Unlike", "seeks", "(ZI)LNapkinDeeds$Rows;"⟩) (n := 2) hC rfl (va_cwU 2 hC.hts (lw_U q1085 q1086 q1087 q812 q190 q813) rfl rfl rfl rfl ⟨by decide, by decide, by decide +kernel⟩ (nd_roomR (by omega) (by decide))) (e1) rfl (Nat.le_of_ble_eq_true rfl) (by omega) rfl (by exact Nat.le_of_ble_eq_true rfl) (by omega) (by omega) dX1_patterns_12 rfl ((cw_seek (fl := true) (most := 5) (d0 := 400) (b := h.length) (rb := h.length + 1) (ci := nX35) (σ := List Int64) (s0 := []) (see := uk_see (fun _ => true) (fun x => (nI (lk_crs x.2 (sy_n S - 1))).toInt64)) (Bd := fun s => s.length < 28000) (Ob := fun s h2 => h2[h.length]? = some (.inr (nX35, [.int (nI s.length), .ref 0, .ref (h.length + 1), .ref 0, .ref 0])) ∧ (∃ f, h2[h.length + 1]? = some (.inl (0, 5, .inl f))) ∧ ∃ cf, h2[100]? = some (.inl (1, 28000, .inr (.inl cf))) ∧ ∀ i, i < s.length → cf i = s.getD i 0) hg (by omega) (by omega) (Nat.le_refl 5) hS hK hl123 hs1 f1 (by omega) (by omega) ?_ ?_ ?_ ⟨e1, ⟨_, e2⟩, cf0, hcf0, fun i hi => absurd hi (Nat.not_lt_zero _)⟩ ?_ (fun h2 H hs2 f2 hl2 => ?_)))
  · exact fun s h2 H => ⟨⟨2, _, Or.inr (Or.inr (Or.inr (Or.inr (Or.inr (Or.inl ⟨rfl, rfl⟩))))), H.1, rfl, rfl⟩, H.2.1⟩
  · intro s h2 h3 H hl hf hr
    obtain ⟨H1, H2, cf, H3, H4⟩ := H
    exact ⟨(hf _ (by omega) (by omega)).trans H1, hr, cf, (hf _ (by omega) (by omega)).trans H3, H4⟩
  · intro d2 hd2 s r l h2 K2 hB H hs2 f2 hl hokl hrw hr5 kk
    obtain ⟨H1, ⟨rf, H2⟩, cf, H3, H4⟩ := H
    have hK2 := hK.f f2
    have hfq : ∀ h3, ck_fr 94 1 h2 h3 → cw_f h h3 := fun h3 q => f2.trans (q.cwf (fun a a1 a2 => by unfold cw_sc; omega))
    refine Or.inr (Or.inl ⟨nX35, _, Or.inr (Or.inr (Or.inr (Or.inl rfl))), H1, cu_seesX35 (Q := fun h3 => ck_fr 94 1 h2 h3 ∧ cw_S h3) (v := (fun _ => true) (r, l)) (cd := (fun x => (nI (lk_crs x.2 (sy_n S - 1))).toInt64) (r, l)) (cf := cf) hg (by omega) H1 (by omega) (fun K3 kq => ?_) (fun h3 q => ?_) (fun hv h3 K3 q kq => ?_) (fun hv => hB) (fun hv h3 q => ?_) (fun hv h3 q => ?_)⟩)
    · exact cq_soX35 hg (kq h2 ⟨ck_fr.rfl, hs2⟩)
    · obtain ⟨⟨x9, hO9⟩, -⟩ := id (hK.f (hfq h3 q.1))
      exact ⟨q.1.2 _ (by omega), ⟨_, _, _, _, hO9⟩, (q.1.2 100 (by omega)).trans H3⟩
    · exact cq_codeX35 hg (by omega) ((hK.f (hfq h3 q.1)).P q.2) hn (hl.fr q.1 (by omega)) hokl ((q.1.2 _ (by omega)).trans H1) kq
    · refine kk h3 ?_ q.2 (hfq h3 q.1) q.1.1 (fun a ha => q.1.2 a (by omega))
      have es : uk_see (fun _ => true) (fun x => (nI (lk_crs x.2 (sy_n S - 1))).toInt64) s (r, l) = s := by unfold uk_see; rw [if_neg (by rw [hv]; decide)]
      rw [es]
      exact ⟨(q.1.2 _ (by omega)).trans H1, ⟨rf, (q.1.2 _ (by omega)).trans H2⟩, cf, (q.1.2 _ (by omega)).trans H3, H4⟩
    · have es : uk_see (fun _ => true) (fun x => (nI (lk_crs x.2 (sy_n S - 1))).toInt64) s (r, l) = s ++ [(fun x => (nI (lk_crs x.2 (sy_n S - 1))).toInt64) (r, l)] := by unfold uk_see; rw [if_pos hv]
      have hbl : h.length < (h3.set 100 (.inl (1, 28000, .inr (.inl (vp_updL cf s.length ((fun x => (nI (lk_crs x.2 (sy_n S - 1))).toInt64) (r, l))))))).length := by
        rw [List.length_set, q.1.1]; exact nd_get_lt H1
      have h100 : 100 < h3.length := by rw [q.1.1]; exact nd_get_lt H3
      refine kk _ ?_ (q.2.c100.set (by omega)) (((hfq h3 q.1).set (Or.inr (by unfold cw_sc; omega))).set (Or.inl (by omega))) (by rw [List.length_set, List.length_set]; exact q.1.1) (fun a ha => by rw [List.getElem?_set_ne (by omega), List.getElem?_set_ne (by omega)]; exact q.1.2 a (by omega))
      rw [es, List.length_append]
      refine ⟨List.getElem?_set_self hbl, ⟨rf, ?_⟩, vp_updL cf s.length ((fun x => (nI (lk_crs x.2 (sy_n S - 1))).toInt64) (r, l)), ?_, fun i hi => ?_⟩
      · rw [List.getElem?_set_ne (by omega), List.getElem?_set_ne (by omega)]; exact (q.1.2 _ (by omega)).trans H2
      · rw [List.getElem?_set_ne (by omega)]; exact List.getElem?_set_self h100
      · by_cases z : i = s.length
        · subst z; rw [uL_s]; simp
        · have hi2 : i < s.length := by
            have h9 : i < s.length + 1 := hi
            omega
          rw [uL_n z, H4 i hi2, List.getD_eq_getElem?_getD, List.getD_eq_getElem?_getD, List.getElem?_append_left hi2]
  · refine df_B_n _ List.length 28000 (fun s x => ?_) _ [] ?_
    · unfold uk_see
      split
      · rw [List.length_append]; exact Nat.le_refl _
      · omega
    · show 0 + _ ≤ 28000
      omega
  · rw [hLL] at H
    obtain ⟨H1, H2, cf, H3, H4⟩ := H
    have hK2 := hK.f f2
    obtain ⟨⟨x9, hO9⟩, -⟩ := id hK2
    have h100 := nd_get_lt H3
    refine nd_pop hC (by rfl) dX1_patterns_15 ?_
    refine nd_aload_n hC dX1_patterns_16 rfl rfl ?_
    refine nd_callU (mm2 := mX23_unlike) (As := []) (mc2 := 1200) (ms2 := 80000) (d2 := d - 1) (owner := "NapkinDeeds$Unlike") (x := ⟨"NapkinDeeds$Unlike", "unlike", "()I"⟩) (n := 0) hC rfl (va_cwU 0 hC.hts (lw_U q1092 q1094 q1095 q1093 q193 q1100) rfl rfl rfl rfl ⟨by decide, by decide, by decide +kernel⟩ (nd_roomR (by omega) (by decide))) (H1) rfl (Nat.le_of_ble_eq_true rfl) (by omega) rfl (by exact Nat.le_of_ble_eq_true rfl) (by omega) (by omega) dX1_patterns_17 rfl ((cu_unlikeX35 (Q := fun fz hz => ∃ hx, so_e h2 hx 1200 80000 ∧ so_p 0 LL.length cf fz ∧ so_s 0 LL.length fz ∧ hz = hx.set 100 (.inl (1, 28000, .inr (.inl fz)))) hg (by omega) (by omega) H1 ⟨_, _, _, _, hO9⟩ (fun K3 kq => ?_) (fun fz hz q => ?_) (fun fz hz q => ?_)))
    · have M := so_arrays (K := K3) (A := 100) (n := 28000) (h := h2) (d := d - 1 - 1) (hi := LL.length) (f := cf) hg (Nat.le_refl _) h100 (by omega) (by omega) (fun hx fz a1 a2 a3 => kq fz _ ⟨hx, a1, a2, a3, rfl⟩)
      rw [l_set_id H3] at M
      exact M
    · obtain ⟨hx, a1, a2, a3, a4⟩ := q
      subst a4
      have hbl := nd_get_lt H1
      have h0l := nd_get_lt hO9
      exact ⟨(List.getElem?_set_ne (by omega)).trans (a1.1.2 _ hbl), (List.getElem?_set_ne (by omega)).trans (a1.1.2 _ h0l), List.getElem?_set_self (Nat.lt_of_lt_of_le h100 a1.le)⟩
    · obtain ⟨hx, a1, a2, a3, a4⟩ := q
      subst a4
      have ev : su_cnt fz LL.length = un_n (fun _ => true) (fun x => lN (lk_crs x.2 (sy_n S - 1))) (lv_all 5 (cr_l0 (sy_N S) (sy_c S) true)) := uk_count (P := fun x => lk_ok (sy_n S) x.2) (c1 := fun x => (nI (lk_crs x.2 (sy_n S - 1))).toInt64) (fun x y hx1 hy1 q1 q2 => by rw [crs_lN hn, crs_lN hn]) (fun x hx1 => (lv_all_ok (cr_l0_ok hS true) x hx1).1) (by rw [hLL]) (fun i hi => by rw [hLL]; exact H4 i hi) a2 a3
      rw [ev]
      refine nd_ireturn hC rfl (by first | rfl | exact nd_b_nar _) (by omega) (by omega) dX1_patterns_20 ((hk0 rfl _ ⟨(hs2.ext a1.1), o, nap, ds, gi, dss, ((hK.f f2).f a1.1.cwf)⟩ ((f2.trans a1.1.cwf).fr hl123)))
end CP37

