set_option maxRecDepth 100000
/-! ===== the class NapkinDeeds: its world for reading ===== -/
/-- a law's tree: none, or a sum (a truth) of these steps -/
def cn_su (o : Nat → Nat) (h : nd_H) (v : Value) (s : List Nat) : Prop := (s = [] ∧ v = .null) ∨ (s ≠ [] ∧ ∃ a f, v = .ref a ∧ f ≤ 900 ∧ su_at o h f a s)
def cn_tr (o : Nat → Nat) (h : nd_H) (v : Value) (s : List Nat) : Prop := (s = [] ∧ v = .null) ∨ (s ≠ [] ∧ ∃ a F f, v = .ref a ∧ f ≤ 900 ∧ tr_at o h F f a s)
/-- a list of small ints, frozen -/
def cn_l (o : Nat → Nat) (h : nd_H) (a : Nat) (ws : List Nat) : Prop := o a = 1 ∧ ws.length ≤ 10 ∧ ((ws = [] ∧ ∃ m ed, h[a]? = some (.inr (nJ2, [.int m, ed, .int (nI 0)]))) ∨ ∃ ed gf, o ed = 1 ∧ ca_L h a ed ws.length gf ∧ ∀ i, i < ws.length → gf i = nd_f (1000 + (128 + ws.getD i 0)))
/-- a napkin -/
def cn_N (o : Nat → Nat) (h : nd_H) (nap : Nat) (N : nk_N) : Prop := ∃ fa ba ga m ed wv kv hv, o nap = 1 ∧ o fa = 1 ∧ h[nap]? = some (.inr (nX3, [.ref fa, .ref ba, .ref ga, .int (nI (nk_ln N)), wv, kv, hv])) ∧ h[fa]? = some (.inr (nJ2, [.int m, ed, .int (nI (nk_n N))])) ∧ cn_l o h ga (nk_w N) ∧ cn_su o h wv (nk_wp N) ∧ cn_tr o h hv (nk_hp N) ∧ cn_su o h kv (nk_lp N)
theorem cn_N.c {o : Nat → Nat} {h : nd_H} {nap : Nat} {N : nk_N} (hN : cn_N o h nap N) : cn_c o h nap (nk_n N) := by
  obtain ⟨fa, ba, ga, m, ed, wv, kv, hv, o1, o2, e1, e2, -⟩ := hN
  exact ⟨fa, _, _, _, _, _, _, m, ed, o1, o2, e1, e2⟩
theorem cn_su.k {o : Nat → Nat} {h h2 : nd_H} {v : Value} {s : List Nat} (f : fk o h h2) (hs : cn_su o h v s) : cn_su o h2 v s := by
  rcases hs with hs | ⟨hn, a, f1, e1, e2, e3⟩
  · exact Or.inl hs
  · exact Or.inr ⟨hn, a, f1, e1, e2, e3.k f⟩
theorem cn_tr.k {o : Nat → Nat} {h h2 : nd_H} {v : Value} {s : List Nat} (f : fk o h h2) (hs : cn_tr o h v s) : cn_tr o h2 v s := by
  rcases hs with hs | ⟨hn, a, F, f1, e1, e2, e3⟩
  · exact Or.inl hs
  · exact Or.inr ⟨hn, a, F, f1, e1, e2, e3.k f⟩
theorem cn_l.k {o : Nat → Nat} {h h2 : nd_H} {a : Nat} {ws : List Nat} (f : fk o h h2) (hs : cn_l o h a ws) : cn_l o h2 a ws := by
  obtain ⟨o1, l1, hs⟩ := hs
  refine ⟨o1, l1, ?_⟩
  rcases hs with ⟨e, m, ed, e1⟩ | ⟨ed, gf, o2, ⟨m, e1, e2⟩, e3⟩
  · exact Or.inl ⟨e, m, ed, (f _ o1).trans e1⟩
  · exact Or.inr ⟨ed, gf, o2, ⟨m, (f _ o1).trans e1, (f _ o2).trans e2⟩, e3⟩
theorem cn_N.k {o : Nat → Nat} {h h2 : nd_H} {nap : Nat} {N : nk_N} (f : fk o h h2) (hN : cn_N o h nap N) : cn_N o h2 nap N := by
  obtain ⟨fa, ba, ga, m, ed, wv, kv, hv, o1, o2, e1, e2, e3, e4, e5, e6⟩ := hN
  exact ⟨fa, ba, ga, m, ed, wv, kv, hv, o1, o2, (f _ o1).trans e1, (f _ o2).trans e2, e3.k f, e4.k f, e5.k f, e6.k f⟩
/-- NapkinDeeds at 0 -/
def cx_O (h : nd_H) (tp fkd fat x : Int32) : Prop := h[0]? = some (.inr (nX1, [.ref 1, .ref 9, .ref 17, .ref 90, .ref 91, .ref 92, .int tp, .int fkd, .int fat, .ref 93, .ref 95, .int x, .ref 100]))
/-- what reading rests on -/
def cw_P (o : Nat → Nat) (h : nd_H) (nap : Nat) (N : nk_N) (s : sv) : Prop := (∃ tp fkd fat x, cx_O h tp fkd fat x) ∧ h[17]? = some (.inl (6, 8, .inr (.inr (fun k => .ref (18 + 9 * k))))) ∧ (∀ k, k < 8 → ck_any h (18 + 9 * k)) ∧ cs_st h 1 nap s ∧ cn_N o h nap N ∧ (∃ tl, cz_T h tl) ∧ ∀ a, o a = 1 → (2 ≤ a ∧ a ≤ 5) ∨ 123 ≤ a
/-- nothing changes but looks from L on (n cells) -/
theorem cw_P.lk {o : Nat → Nat} {h h2 : nd_H} {nap L n : Nat} {N : nk_N} {s : sv} (hP : cw_P o h nap N s) (f : ck_fr L n h h2) (h1 : 18 ≤ L) (h3 : L + n ≤ 90) (hk : ∀ k, k < 8 → ck_any h2 (18 + 9 * k)) : cw_P o h2 nap N s := by
  obtain ⟨⟨tp, fkd, fat, x, a1⟩, a2, a3, a4, a5, ⟨tl, a6, a7⟩, a8⟩ := hP
  exact ⟨⟨tp, fkd, fat, x, (f.2 _ (by omega)).trans a1⟩, (f.2 _ (by omega)).trans a2, hk, a4.fr f (by omega), a5.k (f.k (fun a ha => by have := a8 a ha; omega)), ⟨tl, (f.2 _ (by omega)).trans a6, (f.2 _ (by omega)).trans a7⟩, a8⟩
theorem cw_P.ask {o : Nat → Nat} {h h2 : nd_H} {nap : Nat} {N : nk_N} {s : sv} (hP : cw_P o h nap N s) (f : ck_fr 94 1 h h2) {tl : Nat → Int32} (hT : cz_T h2 tl) : cw_P o h2 nap N s := by
  obtain ⟨⟨tp, fkd, fat, x, a1⟩, a2, a3, a4, a5, -, a8⟩ := hP
  exact ⟨⟨tp, fkd, fat, x, (f.2 _ (by omega)).trans a1⟩, (f.2 _ (by omega)).trans a2, fun k hk => (a3 k hk).fr f (by omega), a4.fr f (by omega), a5.k (f.k (fun a ha => by have := a8 a ha; omega)), ⟨tl, hT⟩, a8⟩
section CX1
variable {g : nd_G} {mm : nd_Mt} {d mc ms : Nat} {K : nd_K} {X : nd_X} {pc : Nat} {lv : List (Option Value)} {st : List Value} {h : nd_H} {cs ss : Nat} {o : Nat → Nat} {nap n L : Nat} {N : nk_N} {s : sv} {l : List (List Nat)} {tl : Nat → Int32}
theorem cz_ast (hC : nd_Cx g mm X) (hT : cz_T h tl) {j : Nat} {x : Int32} (hj : j < 8) (hd : decode mm.2.1 pc = .ok (.iastore, 1)) (kk : ∀ h2, cz_T h2 (upd tl j x) → ck_fr 94 1 h h2 → nd_W g mm d mc ms K X (pc + 1) lv st h2 cs ss) : nd_W g mm d mc ms K X pc lv (.int x :: .int (nI j) :: .ref 94 :: st) h cs ss :=
  nd_iastoreN hC hT.2 hj (by decide) hd (kk _ ⟨by rw [List.getElem?_set_ne (by decide)]; exact hT.1, by rw [List.getElem?_set_self (nd_get_lt hT.2)]⟩ (ck_fr.set (by omega)))
theorem cx_cells (hg : nd_OK g) (hd : 2 ≤ d) (hP : cw_P o h nap N s) (hk : K (.inl (some (.int (nI (nk_n N))))) h) : nd_M g mX1_cells d 0 0 [.ref 0] h K := by
  obtain ⟨⟨tp, fkd, fat, x, hO⟩, a2, a3, ⟨fr, bk, fo, mn, hS, a4⟩, a5, a6, a8⟩ := hP
  have hN := a5.c
  obtain ⟨fa, b1, b2, b3, b4, b5, b6, m, ed, o1, o2, f1, f2⟩ := id hN
  unfold cx_O at hO
  refine nd_enter hg (by decide) rfl (Nat.le_of_ble_eq_true rfl) (fun X hC => ?_)
  refine nd_aload_n hC dX1_cells_0 rfl rfl ?_
  refine nd_get (ci := nX1) hC in_X1 rfl hO 0 (by decide) q384 (fun _ z => z) rfl dX1_cells_1 ?_
  refine nd_getN (ci := nX2) hC in_X2 rfl hS.1 0 (by decide) q301 (fun _ z => z) rfl dX1_cells_4 ?_
  refine nd_callV (mm2 := mX3_cells) (As := []) (mc2 := 0) (ms2 := 0) (d2 := d - 1) hC rfl lkX1_147 ⟨rfl, lmX3_cells⟩ (f1) rfl (Nat.le_of_ble_eq_true rfl) (by omega) rfl (by exact Nat.le_of_ble_eq_true rfl) (by omega) (by omega) dX1_cells_7 rfl ((cn_cells hg (by omega) hN ?_))
  refine nd_ireturn hC rfl (by first | rfl | exact nd_b_nar _) (by omega) (by omega) dX1_cells_10 (hk)
theorem cx_guests (hg : nd_OK g) (hd : 2 ≤ d) (hP : cw_P o h nap N s) (hk : K (.inl (some (.int (nI (nk_w N).length)))) h) : nd_M g mX1_guests d 0 0 [.ref 0] h K := by
  obtain ⟨⟨tp, fkd, fat, x, hO⟩, a2, a3, ⟨fr, bk, fo, mn, hS, a4⟩, a5, a6, a8⟩ := hP
  obtain ⟨fa, ba, ga, m, ed, wv, kv, hv, o1, o2, e1, e2, ⟨o3, l3, hs⟩, -⟩ := a5
  unfold cx_O at hO
  refine nd_enter hg (by decide) rfl (Nat.le_of_ble_eq_true rfl) (fun X hC => ?_)
  refine nd_aload_n hC dX1_guests_0 rfl rfl ?_
  refine nd_get (ci := nX1) hC in_X1 rfl hO 0 (by decide) q384 (fun _ z => z) rfl dX1_guests_1 ?_
  refine nd_getN (ci := nX2) hC in_X2 rfl hS.1 0 (by decide) q301 (fun _ z => z) rfl dX1_guests_4 ?_
  refine nd_getN (ci := nX3) hC in_X3 rfl e1 2 (by decide) q275 (fun _ z => z) rfl dX1_guests_7 ?_
  rcases hs with ⟨e, m2, ed2, hb⟩ | ⟨ed2, gf, o4, ⟨m2, hb, he⟩, e3⟩
  · rw [e] at hk
    refine nd_callV (mm2 := mJ2_size) (As := []) (mc2 := 0) (ms2 := 0) (d2 := d - 1) hC rfl lkX1_154 ⟨rfl, lmJ2_size⟩ (hb) rfl (Nat.le_of_ble_eq_true rfl) (by omega) rfl (by exact Nat.le_of_ble_eq_true rfl) (by omega) (by omega) dX1_guests_10 rfl ((ca_size hg hb ?_))
    refine nd_ireturn hC rfl (by first | rfl | exact nd_b_nar _) (by omega) (by omega) dX1_guests_13 (hk)
  · refine nd_callV (mm2 := mJ2_size) (As := []) (mc2 := 0) (ms2 := 0) (d2 := d - 1) hC rfl lkX1_154 ⟨rfl, lmJ2_size⟩ (hb) rfl (Nat.le_of_ble_eq_true rfl) (by omega) rfl (by exact Nat.le_of_ble_eq_true rfl) (by omega) (by omega) dX1_guests_10 rfl ((ca_size hg hb ?_))
    refine nd_ireturn hC rfl (by first | rfl | exact nd_b_nar _) (by omega) (by omega) dX1_guests_13 (hk)
theorem cx_now (hg : nd_OK g) (hd : 4 ≤ d) (hP : cw_P o h nap N s) (hn : nk_n N ≤ 6) (hv : lk_val (lk_flat (nk_n N)) s.1) (hk : ∀ h2 R, (R = 72 ∨ R = 81) → ck_fr 72 18 h h2 → ck_lk h2 R (lk_run (lk_flat (nk_n N)) s.1) → cw_P o h2 nap N s → K (.inl (some (.ref R))) h2) : nd_M g mX1_now d 0 0 [.ref 0] h K := by
  have hP0 := hP
  obtain ⟨⟨tp, fkd, fat, x, hO⟩, a2, a3, hS0, a5, a6, a8⟩ := hP
  obtain ⟨fr, bk, fo, mn, hS, a4⟩ := id hS0
  unfold cx_O at hO
  refine nd_enter hg (by decide) rfl (Nat.le_of_ble_eq_true rfl) (fun X hC => ?_)
  refine nd_aload_n hC dX1_now_0 rfl rfl ?_
  refine nd_get (ci := nX1) hC in_X1 rfl hO 0 (by decide) q384 (fun _ z => z) rfl dX1_now_1 ?_
  refine nd_aload_n hC dX1_now_4 rfl rfl ?_
  refine nd_get (ci := nX1) hC in_X1 rfl hO 2 (by decide) q387 (fun _ z => z) rfl dX1_now_5 ?_
  refine nd_bipush hC (v := nI 6) (by rfl) dX1_now_8 ?_
  refine nd_aaloadN hC rfl rfl a2 (by omega) (by omega) dX1_now_10 ?_
  refine nd_aload_n hC dX1_now_11 rfl rfl ?_
  refine nd_get (ci := nX1) hC in_X1 rfl hO 2 (by decide) q387 (fun _ z => z) rfl dX1_now_12 ?_
  refine nd_bipush hC (v := nI 7) (by rfl) dX1_now_15 ?_
  refine nd_aaloadN hC rfl rfl a2 (by omega) (by omega) dX1_now_17 ?_
  refine nd_callV (mm2 := mX2_lies) (As := [_, _]) (mc2 := 0) (ms2 := 0) (d2 := d - 1) hC rfl lkX1_157 ⟨rfl, lmX2_lies⟩ (hS.1) rfl (Nat.le_of_ble_eq_true rfl) (by omega) rfl (by exact Nat.le_of_ble_eq_true rfl) (by omega) (by omega) dX1_now_18 rfl ((cs_lies (A := 72) hg (by omega) hS0 a5.c hn hv (a3 6 (by omega)) (a3 7 (by omega)) (by omega) (fun a ha => by have := a8 a ha; omega) (fun h2 R hR f hl q1 q2 => ?_)))
  refine nd_areturn hC rfl (Or.inl ⟨_, rfl⟩) rfl (by omega) (by omega) dX1_now_21 (hk h2 R hR f hl (hP0.lk f (by omega) (by omega) (fun k hk => ?_)))
  by_cases e6 : k = 6
  · subst e6; exact q1
  · by_cases e7 : k = 7
    · subst e7; exact q2
    · exact (a3 k hk).fr f (by omega)
theorem cx_top (hg : nd_OK g) (hd : 1 ≤ d) (hP : cw_P o h nap N s) (hv : sv_ok n s) (hl : ck_lk h L l) (hok : lk_ok n l) (hn : n ≤ 6) (hk : K (.inl (some (.int (lk_tops (sv_fr s) (sv_bk s) l)))) h) : nd_M g mX1_top d 0 0 [.ref 0, .ref L] h K := by
  obtain ⟨⟨tp, fkd, fat, x, hO⟩, a2, a3, hS0, a5, a6, a8⟩ := hP
  obtain ⟨fr, bk, fo, mn, hS, a4⟩ := id hS0
  obtain ⟨w, hi, co, hL, rfl, hlc⟩ := id hl
  have hwd := lk_width hok
  unfold cx_O at hO
  refine nd_enter hg (by decide) rfl (Nat.le_of_ble_eq_true rfl) (fun X hC => ?_)
  refine nd_iconst hC (v := nI 0) (by rfl) dX1_top_0 ?_
  refine nd_istore_n hC dX1_top_1 (Nat.le_of_ble_eq_true rfl) ?_
  refine nd_iconst hC (v := nI 0) (by rfl) dX1_top_2 ?_
  refine nd_istore_n hC dX1_top_3 (Nat.le_of_ble_eq_true rfl) ?_
  have L1 : ∀ t, t ≤ l.length → nd_W g mX1_top d 0 0 K X 4 [some (.ref 0), some (.ref L), some (.int (l_sum (fun t => lk_mk (sv_fr s) (sv_bk s) (lk_top (l.getD t []))) t)), some (.int (nI t))] [] h 0 0 := by
    refine nd_for _ _ ?_ ?_
    · refine nd_iload_n hC dX1_top_4 rfl ?_
      refine nd_aload_n hC dX1_top_5 rfl rfl ?_
      refine nd_getN (ci := nX4) hC in_X4 rfl hL.1 2 (by decide) q344 (fun _ z => z) rfl dX1_top_6 ?_
      first | with_reducible refine nd_icmp_geN hC (tgt := 33) (by omega) (by omega) dX1_top_9 (by decide) (fun hq => ?_) (fun hq => ?_) | refine nd_icmp_ge hC (tgt := 33) dX1_top_9 (by decide) (fun hq => ?_) (fun hq => ?_)
      · refine nd_iload_n hC dX1_top_33 rfl ?_
        refine nd_ireturn hC rfl (by first | rfl | exact nd_b_nar _) (by omega) (by omega) dX1_top_34 (hk)
      · omega
    · intro t ht ih
      refine nd_iload_n hC dX1_top_4 rfl ?_
      refine nd_aload_n hC dX1_top_5 rfl rfl ?_
      refine nd_getN (ci := nX4) hC in_X4 rfl hL.1 2 (by decide) q344 (fun _ z => z) rfl dX1_top_6 ?_
      first | with_reducible refine nd_icmp_geN hC (tgt := 33) (by omega) (by omega) dX1_top_9 (by decide) (fun hq => ?_) (fun hq => ?_) | refine nd_icmp_ge hC (tgt := 33) dX1_top_9 (by decide) (fun hq => ?_) (fun hq => ?_)
      · omega
      · refine nd_iload_n hC dX1_top_12 rfl ?_
        refine nd_aload_n hC dX1_top_13 rfl rfl ?_
        refine nd_get (ci := nX1) hC in_X1 rfl hO 0 (by decide) q384 (fun _ z => z) rfl dX1_top_14 ?_
        refine nd_aload_n hC dX1_top_17 rfl rfl ?_
        refine nd_iload_n hC dX1_top_18 rfl ?_
        refine nd_callV (mm2 := mX4_above) (As := [_]) (mc2 := 0) (ms2 := 0) (d2 := d - 1) hC rfl lkX1_205 ⟨rfl, lmX4_above⟩ (hL.1) rfl (Nat.le_of_ble_eq_true rfl) (by omega) rfl (by exact Nat.le_of_ble_eq_true rfl) (by omega) (by omega) dX1_top_19 rfl ((cl_above hg hl hok hn ht ?_))
        refine nd_callV (mm2 := mX2_mark) (As := [_]) (mc2 := 0) (ms2 := 0) (d2 := d - 1) hC rfl lkX1_208 ⟨rfl, lmX2_mark⟩ (hS.1) rfl (Nat.le_of_ble_eq_true rfl) (by omega) rfl (by exact Nat.le_of_ble_eq_true rfl) (by omega) (by omega) dX1_top_22 rfl ((cs_mark (n := n) hg hS0 hv.2.1 hv.2.2.1 hn (lk_top_half hok hn ht) ?_))
        refine nd_iadd hC dX1_top_25 ?_
        refine nd_istore_n hC dX1_top_26 (Nat.le_of_ble_eq_true rfl) ?_
        first | with_reducible refine nd_iincN hC dX1_top_27 rfl (Nat.le_of_ble_eq_true rfl) ?_ | refine nd_iinc hC dX1_top_27 rfl rfl (Nat.le_of_ble_eq_true rfl) ?_
        refine nd_goto hC (tgt := 4) dX1_top_30 (by decide) ?_
        exact ih
  exact L1 0 (Nat.zero_le _)
theorem cx_under (hg : nd_OK g) (hd : 1 ≤ d) (hP : cw_P o h nap N s) (hv : sv_ok n s) (hl : ck_lk h L l) (hok : lk_ok n l) (hn : n ≤ 6) (hk : K (.inl (some (.int (lk_unders (sv_fr s) (sv_bk s) l)))) h) : nd_M g mX1_under d 0 0 [.ref 0, .ref L] h K := by
  obtain ⟨⟨tp, fkd, fat, x, hO⟩, a2, a3, hS0, a5, a6, a8⟩ := hP
  obtain ⟨fr, bk, fo, mn, hS, a4⟩ := id hS0
  obtain ⟨w, hi, co, hL, rfl, hlc⟩ := id hl
  have hwd := lk_width hok
  unfold cx_O at hO
  refine nd_enter hg (by decide) rfl (Nat.le_of_ble_eq_true rfl) (fun X hC => ?_)
  refine nd_iconst hC (v := nI 0) (by rfl) dX1_under_0 ?_
  refine nd_istore_n hC dX1_under_1 (Nat.le_of_ble_eq_true rfl) ?_
  refine nd_iconst hC (v := nI 0) (by rfl) dX1_under_2 ?_
  refine nd_istore_n hC dX1_under_3 (Nat.le_of_ble_eq_true rfl) ?_
  have L1 : ∀ t, t ≤ l.length → nd_W g mX1_under d 0 0 K X 4 [some (.ref 0), some (.ref L), some (.int (l_sum (fun t => lk_mk (sv_fr s) (sv_bk s) (lk_bot (l.getD t []))) t)), some (.int (nI t))] [] h 0 0 := by
    refine nd_for _ _ ?_ ?_
    · refine nd_iload_n hC dX1_under_4 rfl ?_
      refine nd_aload_n hC dX1_under_5 rfl rfl ?_
      refine nd_getN (ci := nX4) hC in_X4 rfl hL.1 2 (by decide) q344 (fun _ z => z) rfl dX1_under_6 ?_
      first | with_reducible refine nd_icmp_geN hC (tgt := 33) (by omega) (by omega) dX1_under_9 (by decide) (fun hq => ?_) (fun hq => ?_) | refine nd_icmp_ge hC (tgt := 33) dX1_under_9 (by decide) (fun hq => ?_) (fun hq => ?_)
      · refine nd_iload_n hC dX1_under_33 rfl ?_
        refine nd_ireturn hC rfl (by first | rfl | exact nd_b_nar _) (by omega) (by omega) dX1_under_34 (hk)
      · omega
    · intro t ht ih
      refine nd_iload_n hC dX1_under_4 rfl ?_
      refine nd_aload_n hC dX1_under_5 rfl rfl ?_
      refine nd_getN (ci := nX4) hC in_X4 rfl hL.1 2 (by decide) q344 (fun _ z => z) rfl dX1_under_6 ?_
      first | with_reducible refine nd_icmp_geN hC (tgt := 33) (by omega) (by omega) dX1_under_9 (by decide) (fun hq => ?_) (fun hq => ?_) | refine nd_icmp_ge hC (tgt := 33) dX1_under_9 (by decide) (fun hq => ?_) (fun hq => ?_)
      · omega
      · refine nd_iload_n hC dX1_under_12 rfl ?_
        refine nd_aload_n hC dX1_under_13 rfl rfl ?_
        refine nd_get (ci := nX1) hC in_X1 rfl hO 0 (by decide) q384 (fun _ z => z) rfl dX1_under_14 ?_
        refine nd_aload_n hC dX1_under_17 rfl rfl ?_
        refine nd_iload_n hC dX1_under_18 rfl ?_
        refine nd_callV (mm2 := mX4_beneath) (As := [_]) (mc2 := 0) (ms2 := 0) (d2 := d - 1) hC rfl lkX1_211 ⟨rfl, lmX4_beneath⟩ (hL.1) rfl (Nat.le_of_ble_eq_true rfl) (by omega) rfl (by exact Nat.le_of_ble_eq_true rfl) (by omega) (by omega) dX1_under_19 rfl ((cl_beneath hg hl hok hn ht ?_))
        refine nd_callV (mm2 := mX2_mark) (As := [_]) (mc2 := 0) (ms2 := 0) (d2 := d - 1) hC rfl lkX1_208 ⟨rfl, lmX2_mark⟩ (hS.1) rfl (Nat.le_of_ble_eq_true rfl) (by omega) rfl (by exact Nat.le_of_ble_eq_true rfl) (by omega) (by omega) dX1_under_22 rfl ((cs_mark (n := n) hg hS0 hv.2.1 hv.2.2.1 hn (lk_bot_half hok hn ht) ?_))
        refine nd_iadd hC dX1_under_25 ?_
        refine nd_istore_n hC dX1_under_26 (Nat.le_of_ble_eq_true rfl) ?_
        first | with_reducible refine nd_iincN hC dX1_under_27 rfl (Nat.le_of_ble_eq_true rfl) ?_ | refine nd_iinc hC dX1_under_27 rfl rfl (Nat.le_of_ble_eq_true rfl) ?_
        refine nd_goto hC (tgt := 4) dX1_under_30 (by decide) ?_
        exact ih
  exact L1 0 (Nat.zero_le _)
end CX1

