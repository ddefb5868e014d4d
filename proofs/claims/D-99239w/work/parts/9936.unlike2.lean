set_option maxRecDepth 100000
/-! ===== unlike ones: looks, holding, simple, patterns ===== -/
theorem cw_S.c100 {h : nd_H} {cf : Nat → Int64} (H : cw_S h) : cw_S (h.set 100 (.inl (1, 28000, .inr (.inl cf)))) := by
  obtain ⟨b1, ⟨tl, b2⟩, ⟨n2, fr, bk, fo, mn, c1, c2, c3, c4⟩, ⟨cf0, c5⟩⟩ := H
  have e : ∀ {a : Nat} {x : nd_C}, h[a]? = some x → a ≠ 100 → (h.set 100 (.inl (1, 28000, .inr (.inl cf))))[a]? = some x := fun q z => (List.getElem?_set_ne (by omega)).trans q
  refine ⟨fun k hk => ?_, ⟨tl, e b2 (by omega)⟩, ⟨n2, fr, bk, fo, mn, e c1 (by omega), e c2 (by omega), e c3 (by omega), e c4 (by omega)⟩, ⟨cf, List.getElem?_set_self (nd_get_lt c5)⟩⟩
  obtain ⟨w, hi, co, d1, d2, d3, d4⟩ := b1 k hk
  exact ⟨w, hi, co, e d1 (by omega), e d2 (by omega), fun t ht => e (d3 t ht) (by omega), e d4 (by omega)⟩
/-- a heap that goes on another one bears the scratch cells too -/
theorem cw_S.ext {h hx : nd_H} {cf : Nat → Int64} (H : cw_S h) (e : so_ext h hx) : cw_S (hx.set 100 (.inl (1, 28000, .inr (.inl cf)))) := by
  refine cw_S.c100 ?_
  obtain ⟨b1, ⟨tl, b2⟩, ⟨n2, fr, bk, fo, mn, c1, c2, c3, c4⟩, ⟨cf0, c5⟩⟩ := H
  have e : ∀ {a : Nat} {x : nd_C}, h[a]? = some x → hx[a]? = some x := fun q => (e.2 _ (nd_get_lt q)).trans q
  refine ⟨fun k hk => ?_, ⟨tl, e b2⟩, ⟨n2, fr, bk, fo, mn, e c1, e c2, e c3, e c4⟩, ⟨cf0, e c5⟩⟩
  obtain ⟨w, hi, co, d1, d2, d3, d4⟩ := b1 k hk
  exact ⟨w, hi, co, e d1, e d2, fun t ht => e (d3 t ht), e d4⟩
theorem so_ext.cwf {h hx : nd_H} {cf : Nat → Int64} (e : so_ext h hx) : cw_f h (hx.set 100 (.inl (1, 28000, .inr (.inl cf)))) :=
  cw_f.set ⟨e.1, fun a c q _ => (e.2 a (nd_get_lt q)).trans q⟩ (Or.inr (by unfold cw_sc; omega))
theorem l_set_id {h : nd_H} {a : Nat} {c : nd_C} (e : h[a]? = some c) : h.set a c = h := by
  apply List.ext_getElem?
  intro i
  by_cases z : i = a
  · subst z; rw [List.getElem?_set_self (nd_get_lt e), e]
  · rw [List.getElem?_set_ne (Ne.symm z)]
theorem uk_len (cond : lv_E → Bool) (code : lv_E → Int64) (xs : List lv_E) : (xs.foldl (uk_see cond code) []).length ≤ xs.length := by
  rw [uk_fold, List.nil_append, List.length_map]
  exact List.length_filter_le _ _
section CP36
variable {g : nd_G} {d : Nat} {K : nd_K} {h : nd_H} {o : Nat → Nat} {nap : Nat} {ds : List Nat} {gi : Nat → Value} {dss : Nat → List Nat} {S : sy_S}
theorem cp_looks (hg : nd_OK g) (hd : 420 ≤ d) (x : Int32) : cp_ok g mX1_looks d 1210 80040 [.int x] (ex1 eIAE) (mp_i (op_looks x)) := by
  intro S h K hS hI hl123 hk0 hk1
  obtain ⟨hs, o, nap, ds, gi, dss, hK⟩ := hI
  obtain ⟨⟨x0, hO⟩, h17, hkk, -⟩ := id hK
  unfold cx_O at hO
  have hok := sy_l_ok hS
  have hwd := lk_width hok
  have hn : sy_n S ≤ 6 := hS.1.1.1
  have h5 := sy_len5 hS
  obtain ⟨sfr, sbk, sfo, smn, hSt, hcv⟩ := id hkk.2.1
  obtain ⟨hSt1, hSt2, hSt3, hSt4⟩ := id hSt
  have hcv : cs_v sfr sbk sfo smn (sy_c S) := hcv
  have hsv : sv_ok (sy_n S) (sy_c S) := hS.1.2.1
  unfold mp_i op_looks op_many at hk0 hk1
  refine nd_enter hg (by decide) rfl (Nat.le_of_ble_eq_true rfl) (fun X hC => ?_)
  refine nd_iload_n hC dX1_looks_0 rfl ?_
  refine nd_callS (mm2 := mX1_mustRows) (As := [_]) (mc2 := 1) (ms2 := 6) (d2 := d - 1) hC rfl lkX1_368 lmX1_mustRows (Nat.le_of_ble_eq_true rfl) (by omega) rfl (by exact Nat.le_of_ble_eq_true rfl) (by omega) (by omega) dX1_looks_1 rfl ((cx_mustRows hg (by omega) (fun hc => ?_) (fun hc n => ?_)))
  · rw [if_pos hc] at hk0
    obtain ⟨m, hm9, rfl⟩ := op_in_nat hc
    have hm5 : m ≤ 5 := by omega
    rw [nI_cl (by omega)] at hk0
    refine nd_new (ci := nX24) hC [.int 0, .null, .null, .null, .null] in_X24 rfl tyX24 tyX24_ok q2167 q2168 q194 rfl rfl (by omega) (by omega) dX1_looks_4 ?_
    refine nd_dup hC (by rfl) dX1_looks_7 ?_
    refine nd_aload_n hC dX1_looks_8 rfl rfl ?_
    refine nd_callI (mm2 := mX24_init) (As := [_]) (mc2 := 1) (ms2 := 5) (d2 := d - 1) hC rfl rfl q2171 q194 q2169 q2170 rfl lmX24_init (Nat.le_of_ble_eq_true rfl) (by omega) rfl (by exact Nat.le_of_ble_eq_true rfl) (by omega) (by omega) dX1_looks_9 rfl ((ni_X24 hg (by omega) (List.getElem?_concat_length ..) ?_))
    rw [show (h ++ [(.inr (nX24, [.int 0, .null, .null, .null, .null]) : nd_C)]).length = h.length + 1 by simp]
    generalize hh1 : (h ++ [(.inr (nX24, [.int 0, .null, .null, .null, .null]) : nd_C)]).set h.length (.inr (nX24, [.int 0, .ref 0, .ref (h.length + 1), .ref 0, .ref 0])) ++ [.inl (0, 5, .inl (fun _ => 0))] = h1
    have e1 : h1[h.length]? = some (.inr (nX24, [.int (nI 0), .ref 0, .ref (h.length + 1), .ref 0, .ref 0])) := by
      rw [← hh1]; exact l_get_app (by simp)
    have e2 : h1[h.length + 1]? = some (.inl (0, 5, .inl (fun _ => 0))) := by
      rw [← hh1, List.getElem?_append_right (by simp)]; simp
    have f1 : cw_f h h1 := by
      rw [← hh1]
      exact (cw_f.app (cw_f.set (cw_f.app cw_f.rfl) (Or.inl (Nat.le_refl _))))
    have hs1 : cw_S h1 := by
      rw [← hh1]
      exact cw_S.app (cw_S.set hs.app (by omega))
    obtain ⟨cf0, hcf0⟩ := id hs1.2.2.2
    have hdl := df_le (m := m) hm5 (cr_l0_ok hS false) hn
    generalize hLL : (df m [] (cr_l0 (sy_N S) (sy_c S) false)).foldl (uk_see (fun _ => true) (fun x => lN (cd_all x.2 x.2.length))) [] = LL
    have hLlen : LL.length ≤ 27925 := by
      rw [← hLL]; exact Nat.le_trans (uk_len _ _ _) hdl
    refine nd_astore_n hC dX1_looks_12 (Nat.le_of_ble_eq_true rfl) rfl ?_
    refine nd_aload_n hC dX1_looks_13 rfl rfl ?_
    refine nd_iconst hC (v := nI 0) (by rfl) dX1_looks_14 ?_
    refine nd_iload_n hC dX1_looks_15 rfl ?_
    refine nd_callU (mm2 := mX20_seeks) (As := [_, _]) (mc2 := 0) (ms2 := 0) (d2 := d - 1) (owner := "NapkinDeeds$Rows") (x := ⟨"NapkinDeeds$Unlike", "seeks", "(ZI)LNapkinDeeds$Rows;"⟩) (n := 2) hC rfl (va_cwU 2 hC.hts (lw_U q1085 q1086 q1089 q812 q190 q813) rfl rfl rfl rfl ⟨by decide, by decide, by decide +kernel⟩ (nd_roomR (by omega) (by decide))) (e1) rfl (Nat.le_of_ble_eq_true rfl) (by omega) rfl (by exact Nat.le_of_ble_eq_true rfl) (by omega) (by omega) dX1_looks_16 rfl ((cw_seek (fl := false) (most := m) (d0 := 400) (b := h.length) (rb := h.length + 1) (ci := nX24) (σ := List Int64) (s0 := []) (see := uk_see (fun _ => true) (fun x => lN (cd_all x.2 x.2.length))) (Bd := fun s => s.length < 28000) (Ob := fun s h2 => h2[h.length]? = some (.inr (nX24, [.int (nI s.length), .ref 0, .ref (h.length + 1), .ref 0, .ref 0])) ∧ (∃ f, h2[h.length + 1]? = some (.inl (0, 5, .inl f))) ∧ ∃ cf, h2[100]? = some (.inl (1, 28000, .inr (.inl cf))) ∧ ∀ i, i < s.length → cf i = s.getD i 0) hg (by omega) (by omega) hm5 hS hK hl123 hs1 f1 (by omega) (by omega) ?_ ?_ ?_ ⟨e1, ⟨_, e2⟩, cf0, hcf0, fun i hi => absurd hi (Nat.not_lt_zero _)⟩ ?_ (fun h2 H hs2 f2 hl2 => ?_)))
    · exact fun s h2 H => ⟨⟨2, _, Or.inr (Or.inr (Or.inl ⟨rfl, rfl⟩)), H.1, rfl, rfl⟩, H.2.1⟩
    · intro s h2 h3 H hl hf hr
      obtain ⟨H1, H2, cf, H3, H4⟩ := H
      exact ⟨(hf _ (by omega) (by omega)).trans H1, hr, cf, (hf _ (by omega) (by omega)).trans H3, H4⟩
    · intro d2 hd2 s r l h2 K2 hB H hs2 f2 hl hokl hrw hr5 kk
      obtain ⟨H1, ⟨rf, H2⟩, cf, H3, H4⟩ := H
      have hK2 := hK.f f2
      have hfq : ∀ h3, ck_fr 94 1 h2 h3 → cw_f h h3 := fun h3 q => f2.trans (q.cwf (fun a a1 a2 => by unfold cw_sc; omega))
      refine Or.inr (Or.inl ⟨nX24, _, Or.inl rfl, H1, cu_seesX24 (Q := fun h3 => ck_fr 94 1 h2 h3 ∧ cw_S h3) (v := (fun _ => true) (r, l)) (cd := (fun x => lN (cd_all x.2 x.2.length)) (r, l)) (cf := cf) hg (by omega) H1 (by omega) (fun K3 kq => ?_) (fun h3 q => ?_) (fun hv h3 K3 q kq => ?_) (fun hv => hB) (fun hv h3 q => ?_) (fun hv h3 q => ?_)⟩)
      · exact cq_soX24 hg (kq h2 ⟨ck_fr.rfl, hs2⟩)
      · obtain ⟨⟨x9, hO9⟩, -⟩ := id (hK.f (hfq h3 q.1))
        exact ⟨q.1.2 _ (by omega), ⟨_, _, _, _, hO9⟩, (q.1.2 100 (by omega)).trans H3⟩
      · exact cq_codeX23 hg (by omega) (hl.fr q.1 (by omega)) hokl hn kq
      · refine kk h3 ?_ q.2 (hfq h3 q.1) q.1.1 (fun a ha => q.1.2 a (by omega))
        have es : uk_see (fun _ => true) (fun x => lN (cd_all x.2 x.2.length)) s (r, l) = s := by unfold uk_see; rw [if_neg (by rw [hv]; decide)]
        rw [es]
        exact ⟨(q.1.2 _ (by omega)).trans H1, ⟨rf, (q.1.2 _ (by omega)).trans H2⟩, cf, (q.1.2 _ (by omega)).trans H3, H4⟩
      · have es : uk_see (fun _ => true) (fun x => lN (cd_all x.2 x.2.length)) s (r, l) = s ++ [(fun x => lN (cd_all x.2 x.2.length)) (r, l)] := by unfold uk_see; rw [if_pos hv]
        have hbl : h.length < (h3.set 100 (.inl (1, 28000, .inr (.inl (vp_updL cf s.length ((fun x => lN (cd_all x.2 x.2.length)) (r, l))))))).length := by
          rw [List.length_set, q.1.1]; exact nd_get_lt H1
        have h100 : 100 < h3.length := by rw [q.1.1]; exact nd_get_lt H3
        refine kk _ ?_ (q.2.c100.set (by omega)) (((hfq h3 q.1).set (Or.inr (by unfold cw_sc; omega))).set (Or.inl (by omega))) (by rw [List.length_set, List.length_set]; exact q.1.1) (fun a ha => by rw [List.getElem?_set_ne (by omega), List.getElem?_set_ne (by omega)]; exact q.1.2 a (by omega))
        rw [es, List.length_append]
        refine ⟨List.getElem?_set_self hbl, ⟨rf, ?_⟩, vp_updL cf s.length ((fun x => lN (cd_all x.2 x.2.length)) (r, l)), ?_, fun i hi => ?_⟩
        · rw [List.getElem?_set_ne (by omega), List.getElem?_set_ne (by omega)]; exact (q.1.2 _ (by omega)).trans H2
        · rw [List.getElem?_set_ne (by omega)]; exact List.getElem?_set_self h100
        · by_cases z : i = s.length
          · subst z; rw [uL_s]; simp
          · have hi2 : i < s.length := by
              have h9 : i < s.length + 1 := hi
              omega
            rw [uL_n z, H4 i hi2, List.getD_eq_getElem?_getD, List.getD_eq_getElem?_getD, List.getElem?_append_left hi2]
    · refine df_B_n _ List.length 28000 (fun s x => ?_) _ [] ?_
      · unfold uk_see
        split
        · rw [List.length_append]; exact Nat.le_refl _
        · omega
      · show 0 + _ ≤ 28000
        omega
    · rw [hLL] at H
      obtain ⟨H1, H2, cf, H3, H4⟩ := H
      have hK2 := hK.f f2
      obtain ⟨⟨x9, hO9⟩, -⟩ := id hK2
      have h100 := nd_get_lt H3
      refine nd_pop hC (by rfl) dX1_looks_19 ?_
      refine nd_aload_n hC dX1_looks_20 rfl rfl ?_
      refine nd_callU (mm2 := mX23_unlike) (As := []) (mc2 := 1200) (ms2 := 80000) (d2 := d - 1) (owner := "NapkinDeeds$Unlike") (x := ⟨"NapkinDeeds$Unlike", "unlike", "()I"⟩) (n := 0) hC rfl (va_cwU 0 hC.hts (lw_U q1092 q1094 q1097 q1093 q193 q1100) rfl rfl rfl rfl ⟨by decide, by decide, by decide +kernel⟩ (nd_roomR (by omega) (by decide))) (H1) rfl (Nat.le_of_ble_eq_true rfl) (by omega) rfl (by exact Nat.le_of_ble_eq_true rfl) (by omega) (by omega) dX1_looks_21 rfl ((cu_unlikeX24 (Q := fun fz hz => ∃ hx, so_e h2 hx 1200 80000 ∧ so_p 0 LL.length cf fz ∧ so_s 0 LL.length fz ∧ hz = hx.set 100 (.inl (1, 28000, .inr (.inl fz)))) hg (by omega) (by omega) H1 ⟨_, _, _, _, hO9⟩ (fun K3 kq => ?_) (fun fz hz q => ?_) (fun fz hz q => ?_)))
      · have M := so_arrays (K := K3) (A := 100) (n := 28000) (h := h2) (d := d - 1 - 1) (hi := LL.length) (f := cf) hg (Nat.le_refl _) h100 (by omega) (by omega) (fun hx fz a1 a2 a3 => kq fz _ ⟨hx, a1, a2, a3, rfl⟩)
        rw [l_set_id H3] at M
        exact M
      · obtain ⟨hx, a1, a2, a3, a4⟩ := q
        subst a4
        have hbl := nd_get_lt H1
        have h0l := nd_get_lt hO9
        exact ⟨(List.getElem?_set_ne (by omega)).trans (a1.1.2 _ hbl), (List.getElem?_set_ne (by omega)).trans (a1.1.2 _ h0l), List.getElem?_set_self (Nat.lt_of_lt_of_le h100 a1.le)⟩
      · obtain ⟨hx, a1, a2, a3, a4⟩ := q
        subst a4
        have ev : su_cnt fz LL.length = un_n (fun _ => true) (fun x => lN (lk_code x.2 (sy_n S))) (lv_all m (cr_l0 (sy_N S) (sy_c S) false)) := uk_count (P := fun x => lk_ok (sy_n S) x.2) (c1 := fun x => lN (cd_all x.2 x.2.length)) (fun x y hx1 hy1 q1 q2 => cd_code hx1 hy1 hn) (fun x hx1 => (lv_all_ok (cr_l0_ok hS false) x hx1).1) (by rw [hLL]) (fun i hi => by rw [hLL]; exact H4 i hi) a2 a3
        rw [ev]
        refine nd_ireturn hC rfl (by first | rfl | exact nd_b_nar _) (by omega) (by omega) dX1_looks_24 ((hk0 rfl _ ⟨(hs2.ext a1.1), o, nap, ds, gi, dss, ((hK.f f2).f a1.1.cwf)⟩ ((f2.trans a1.1.cwf).fr hl123)))
  · rw [if_neg (by rw [hc]; decide)] at hk1
    exact nd_out hC rfl (by omega) (by omega) (hk1 (Nat.succ_ne_zero _) _ _ ⟨hs.app, o, nap, ds, gi, dss, hK.f cw_f.rfl.app⟩ (cw_f.rfl.app.fr hl123))
theorem cp_holding (hg : nd_OK g) (hd : 940 ≤ d) (x : Int32) : cp_ok g mX1_holding d 1210 80040 [.int x] (ex1 eIAE) (mp_i (op_holding x)) := by
  intro S h K hS hI hl123 hk0 hk1
  obtain ⟨hs, o, nap, ds, gi, dss, hK⟩ := hI
  obtain ⟨⟨x0, hO⟩, h17, hkk, -⟩ := id hK
  unfold cx_O at hO
  have hok := sy_l_ok hS
  have hwd := lk_width hok
  have hn : sy_n S ≤ 6 := hS.1.1.1
  have h5 := sy_len5 hS
  obtain ⟨sfr, sbk, sfo, smn, hSt, hcv⟩ := id hkk.2.1
  obtain ⟨hSt1, hSt2, hSt3, hSt4⟩ := id hSt
  have hcv : cs_v sfr sbk sfo smn (sy_c S) := hcv
  have hsv : sv_ok (sy_n S) (sy_c S) := hS.1.2.1
  unfold mp_i op_holding op_many at hk0 hk1
  refine nd_enter hg (by decide) rfl (Nat.le_of_ble_eq_true rfl) (fun X hC => ?_)
  refine nd_iload_n hC dX1_holding_0 rfl ?_
  refine nd_callS (mm2 := mX1_mustRows) (As := [_]) (mc2 := 1) (ms2 := 6) (d2 := d - 1) hC rfl lkX1_368 lmX1_mustRows (Nat.le_of_ble_eq_true rfl) (by omega) rfl (by exact Nat.le_of_ble_eq_true rfl) (by omega) (by omega) dX1_holding_1 rfl ((cx_mustRows hg (by omega) (fun hc => ?_) (fun hc n => ?_)))
  · rw [if_pos hc] at hk0
    obtain ⟨m, hm9, rfl⟩ := op_in_nat hc
    have hm5 : m ≤ 5 := by omega
    rw [nI_cl (by omega)] at hk0
    refine nd_new (ci := nX28) hC [.int 0, .null, .null, .null, .null] in_X28 rfl tyX28 tyX28_ok q2257 q2258 q204 rfl rfl (by omega) (by omega) dX1_holding_4 ?_
    refine nd_dup hC (by rfl) dX1_holding_7 ?_
    refine nd_aload_n hC dX1_holding_8 rfl rfl ?_
    refine nd_callI (mm2 := mX28_init) (As := [_]) (mc2 := 1) (ms2 := 5) (d2 := d - 1) hC rfl rfl q2261 q204 q2259 q2260 rfl lmX28_init (Nat.le_of_ble_eq_true rfl) (by omega) rfl (by exact Nat.le_of_ble_eq_true rfl) (by omega) (by omega) dX1_holding_9 rfl ((ni_X28 hg (by omega) (List.getElem?_concat_length ..) ?_))
    rw [show (h ++ [(.inr (nX28, [.int 0, .null, .null, .null, .null]) : nd_C)]).length = h.length + 1 by simp]
    generalize hh1 : (h ++ [(.inr (nX28, [.int 0, .null, .null, .null, .null]) : nd_C)]).set h.length (.inr (nX28, [.int 0, .ref 0, .ref (h.length + 1), .ref 0, .ref 0])) ++ [.inl (0, 5, .inl (fun _ => 0))] = h1
    have e1 : h1[h.length]? = some (.inr (nX28, [.int (nI 0), .ref 0, .ref (h.length + 1), .ref 0, .ref 0])) := by
      rw [← hh1]; exact l_get_app (by simp)
    have e2 : h1[h.length + 1]? = some (.inl (0, 5, .inl (fun _ => 0))) := by
      rw [← hh1, List.getElem?_append_right (by simp)]; simp
    have f1 : cw_f h h1 := by
      rw [← hh1]
      exact (cw_f.app (cw_f.set (cw_f.app cw_f.rfl) (Or.inl (Nat.le_refl _))))
    have hs1 : cw_S h1 := by
      rw [← hh1]
      exact cw_S.app (cw_S.set hs.app (by omega))
    obtain ⟨cf0, hcf0⟩ := id hs1.2.2.2
    have hdl := df_le (m := m) hm5 (cr_l0_ok hS false) hn
    generalize hLL : (df m [] (cr_l0 (sy_N S) (sy_c S) false)).foldl (uk_see (sy_holds S) (fun x => lN (cd_all x.2 x.2.length))) [] = LL
    have hLlen : LL.length ≤ 27925 := by
      rw [← hLL]; exact Nat.le_trans (uk_len _ _ _) hdl
    refine nd_astore_n hC dX1_holding_12 (Nat.le_of_ble_eq_true rfl) rfl ?_
    refine nd_aload_n hC dX1_holding_13 rfl rfl ?_
    refine nd_iconst hC (v := nI 0) (by rfl) dX1_holding_14 ?_
    refine nd_iload_n hC dX1_holding_15 rfl ?_
    refine nd_callU (mm2 := mX20_seeks) (As := [_, _]) (mc2 := 0) (ms2 := 0) (d2 := d - 1) (owner := "NapkinDeeds$Rows") (x := ⟨"NapkinDeeds$Unlike", "seeks", "(ZI)LNapkinDeeds$Rows;"⟩) (n := 2) hC rfl (va_cwU 2 hC.hts (lw_U q1085 q1086 q1090 q812 q190 q813) rfl rfl rfl rfl ⟨by decide, by decide, by decide +kernel⟩ (nd_roomR (by omega) (by decide))) (e1) rfl (Nat.le_of_ble_eq_true rfl) (by omega) rfl (by exact Nat.le_of_ble_eq_true rfl) (by omega) (by omega) dX1_holding_16 rfl ((cw_seek (fl := false) (most := m) (d0 := 920) (b := h.length) (rb := h.length + 1) (ci := nX28) (σ := List Int64) (s0 := []) (see := uk_see (sy_holds S) (fun x => lN (cd_all x.2 x.2.length))) (Bd := fun s => s.length < 28000) (Ob := fun s h2 => h2[h.length]? = some (.inr (nX28, [.int (nI s.length), .ref 0, .ref (h.length + 1), .ref 0, .ref 0])) ∧ (∃ f, h2[h.length + 1]? = some (.inl (0, 5, .inl f))) ∧ ∃ cf, h2[100]? = some (.inl (1, 28000, .inr (.inl cf))) ∧ ∀ i, i < s.length → cf i = s.getD i 0) hg (by omega) (by omega) hm5 hS hK hl123 hs1 f1 (by omega) (by omega) ?_ ?_ ?_ ⟨e1, ⟨_, e2⟩, cf0, hcf0, fun i hi => absurd hi (Nat.not_lt_zero _)⟩ ?_ (fun h2 H hs2 f2 hl2 => ?_)))
    · exact fun s h2 H => ⟨⟨2, _, Or.inr (Or.inr (Or.inr (Or.inl ⟨rfl, rfl⟩))), H.1, rfl, rfl⟩, H.2.1⟩
    · intro s h2 h3 H hl hf hr
      obtain ⟨H1, H2, cf, H3, H4⟩ := H
      exact ⟨(hf _ (by omega) (by omega)).trans H1, hr, cf, (hf _ (by omega) (by omega)).trans H3, H4⟩
    · intro d2 hd2 s r l h2 K2 hB H hs2 f2 hl hokl hrw hr5 kk
      obtain ⟨H1, ⟨rf, H2⟩, cf, H3, H4⟩ := H
      have hK2 := hK.f f2
      have hfq : ∀ h3, ck_fr 94 1 h2 h3 → cw_f h h3 := fun h3 q => f2.trans (q.cwf (fun a a1 a2 => by unfold cw_sc; omega))
      refine Or.inr (Or.inl ⟨nX28, _, Or.inr (Or.inl rfl), H1, cu_seesX28 (Q := fun h3 => ck_fr 94 1 h2 h3 ∧ cw_S h3) (v := (sy_holds S) (r, l)) (cd := (fun x => lN (cd_all x.2 x.2.length)) (r, l)) (cf := cf) hg (by omega) H1 (by omega) (fun K3 kq => ?_) (fun h3 q => ?_) (fun hv h3 K3 q kq => ?_) (fun hv => hB) (fun hv h3 q => ?_) (fun hv h3 q => ?_)⟩)
      · exact cq_soX28 hg (by omega) (hK2.P hs2) hsv hS.1.1 hl (by omega) hokl H1 (fun h3 f3 hP3 => kq h3 ⟨f3, hP3.S hs2 (fun a ha => f3.2 a (by omega))⟩)
      · obtain ⟨⟨x9, hO9⟩, -⟩ := id (hK.f (hfq h3 q.1))
        exact ⟨q.1.2 _ (by omega), ⟨_, _, _, _, hO9⟩, (q.1.2 100 (by omega)).trans H3⟩
      · exact cq_codeX23 hg (by omega) (hl.fr q.1 (by omega)) hokl hn kq
      · refine kk h3 ?_ q.2 (hfq h3 q.1) q.1.1 (fun a ha => q.1.2 a (by omega))
        have es : uk_see (sy_holds S) (fun x => lN (cd_all x.2 x.2.length)) s (r, l) = s := by unfold uk_see; rw [if_neg (by rw [hv]; decide)]
        rw [es]
        exact ⟨(q.1.2 _ (by omega)).trans H1, ⟨rf, (q.1.2 _ (by omega)).trans H2⟩, cf, (q.1.2 _ (by omega)).trans H3, H4⟩
      · have es : uk_see (sy_holds S) (fun x => lN (cd_all x.2 x.2.length)) s (r, l) = s ++ [(fun x => lN (cd_all x.2 x.2.length)) (r, l)] := by unfold uk_see; rw [if_pos hv]
        have hbl : h.length < (h3.set 100 (.inl (1, 28000, .inr (.inl (vp_updL cf s.length ((fun x => lN (cd_all x.2 x.2.length)) (r, l))))))).length := by
          rw [List.length_set, q.1.1]; exact nd_get_lt H1
        have h100 : 100 < h3.length := by rw [q.1.1]; exact nd_get_lt H3
        refine kk _ ?_ (q.2.c100.set (by omega)) (((hfq h3 q.1).set (Or.inr (by unfold cw_sc; omega))).set (Or.inl (by omega))) (by rw [List.length_set, List.length_set]; exact q.1.1) (fun a ha => by rw [List.getElem?_set_ne (by omega), List.getElem?_set_ne (by omega)]; exact q.1.2 a (by omega))
        rw [es, List.length_append]
        refine ⟨List.getElem?_set_self hbl, ⟨rf, ?_⟩, vp_updL cf s.length ((fun x => lN (cd_all x.2 x.2.length)) (r, l)), ?_, fun i hi => ?_⟩
        · rw [List.getElem?_set_ne (by omega), List.getElem?_set_ne (by omega)]; exact (q.1.2 _ (by omega)).trans H2
        · rw [List.getElem?_set_ne (by omega)]; exact List.getElem?_set_self h100
        · by_cases z : i = s.length
          · subst z; rw [uL_s]; simp
          · have hi2 : i < s.length := by
              have h9 : i < s.length + 1 := hi
              omega
            rw [uL_n z, H4 i hi2, List.getD_eq_getElem?_getD, List.getD_eq_getElem?_getD, List.getElem?_append_left hi2]
    · refine df_B_n _ List.length 28000 (fun s x => ?_) _ [] ?_
      · unfold uk_see
        split
        · rw [List.length_append]; exact Nat.le_refl _
        · omega
      · show 0 + _ ≤ 28000
        omega
    · rw [hLL] at H
      obtain ⟨H1, H2, cf, H3, H4⟩ := H
      have hK2 := hK.f f2
      obtain ⟨⟨x9, hO9⟩, -⟩ := id hK2
      have h100 := nd_get_lt H3
      refine nd_pop hC (by rfl) dX1_holding_19 ?_
      refine nd_aload_n hC dX1_holding_20 rfl rfl ?_
      refine nd_callU (mm2 := mX23_unlike) (As := []) (mc2 := 1200) (ms2 := 80000) (d2 := d - 1) (owner := "NapkinDeeds$Unlike") (x := ⟨"NapkinDeeds$Unlike", "unlike", "()I"⟩) (n := 0) hC rfl (va_cwU 0 hC.hts (lw_U q1092 q1094 q1098 q1093 q193 q1100) rfl rfl rfl rfl ⟨by decide, by decide, by decide +kernel⟩ (nd_roomR (by omega) (by decide))) (H1) rfl (Nat.le_of_ble_eq_true rfl) (by omega) rfl (by exact Nat.le_of_ble_eq_true rfl) (by omega) (by omega) dX1_holding_21 rfl ((cu_unlikeX28 (Q := fun fz hz => ∃ hx, so_e h2 hx 1200 80000 ∧ so_p 0 LL.length cf fz ∧ so_s 0 LL.length fz ∧ hz = hx.set 100 (.inl (1, 28000, .inr (.inl fz)))) hg (by omega) (by omega) H1 ⟨_, _, _, _, hO9⟩ (fun K3 kq => ?_) (fun fz hz q => ?_) (fun fz hz q => ?_)))
      · have M := so_arrays (K := K3) (A := 100) (n := 28000) (h := h2) (d := d - 1 - 1) (hi := LL.length) (f := cf) hg (Nat.le_refl _) h100 (by omega) (by omega) (fun hx fz a1 a2 a3 => kq fz _ ⟨hx, a1, a2, a3, rfl⟩)
        rw [l_set_id H3] at M
        exact M
      · obtain ⟨hx, a1, a2, a3, a4⟩ := q
        subst a4
        have hbl := nd_get_lt H1
        have h0l := nd_get_lt hO9
        exact ⟨(List.getElem?_set_ne (by omega)).trans (a1.1.2 _ hbl), (List.getElem?_set_ne (by omega)).trans (a1.1.2 _ h0l), List.getElem?_set_self (Nat.lt_of_lt_of_le h100 a1.le)⟩
      · obtain ⟨hx, a1, a2, a3, a4⟩ := q
        subst a4
        have ev : su_cnt fz LL.length = un_n (sy_holds S) (fun x => lN (lk_code x.2 (sy_n S))) (lv_all m (cr_l0 (sy_N S) (sy_c S) false)) := uk_count (P := fun x => lk_ok (sy_n S) x.2) (c1 := fun x => lN (cd_all x.2 x.2.length)) (fun x y hx1 hy1 q1 q2 => cd_code hx1 hy1 hn) (fun x hx1 => (lv_all_ok (cr_l0_ok hS false) x hx1).1) (by rw [hLL]) (fun i hi => by rw [hLL]; exact H4 i hi) a2 a3
        rw [ev]
        refine nd_ireturn hC rfl (by first | rfl | exact nd_b_nar _) (by omega) (by omega) dX1_holding_24 ((hk0 rfl _ ⟨(hs2.ext a1.1), o, nap, ds, gi, dss, ((hK.f f2).f a1.1.cwf)⟩ ((f2.trans a1.1.cwf).fr hl123)))
  · rw [if_neg (by rw [hc]; decide)] at hk1
    exact nd_out hC rfl (by omega) (by omega) (hk1 (Nat.succ_ne_zero _) _ _ ⟨hs.app, o, nap, ds, gi, dss, hK.f cw_f.rfl.app⟩ (cw_f.rfl.app.fr hl123))
end CP36

