/-! ===== THE SYSTEM'S STATE, plain ===== -/
/-- a napkin's state: folds, marks in front, at the back -/
abbrev sv : Type := List Nat × List Nat × List Nat
abbrev sv_fr (s : sv) : Nat → Int32 := fun c => nI (s.2.1.getD c 0)
abbrev sv_bk (s : sv) : Nat → Int32 := fun c => nI (s.2.2.getD c 0)
def sv_ok (n : Nat) (s : sv) : Prop := lk_val (lk_flat n) s.1 ∧ s.2.1.length = n ∧ s.2.2.length = n ∧ (∀ c, s.2.1.getD c 0 < 100) ∧ ∀ c, s.2.2.getD c 0 < 100
/-- napkin, state, what can be undone -/
abbrev sy_P : Type := nk_N × sv × List sv
def sp_ok (P : sy_P) : Prop := nk_ok P.1 ∧ sv_ok (nk_n P.1) P.2.1 ∧ P.2.2.length ≤ 10 ∧ ∀ s ∈ P.2.2, sv_ok (nk_n P.1) s
/-- .., images, trays (sort, numbers), tape, fault's kind and place -/
abbrev sy_S : Type := sy_P × (Nat → Option sy_P) × (Nat → Option (Nat × List Int64)) × List Nat × Nat × Int32
abbrev sy_p (S : sy_S) : sy_P := S.1
abbrev sy_N (S : sy_S) : nk_N := S.1.1
abbrev sy_n (S : sy_S) : Nat := S.1.1.1
abbrev sy_c (S : sy_S) : sv := S.1.2.1
abbrev sy_d (S : sy_S) : List sv := S.1.2.2
abbrev sy_i (S : sy_S) : Nat → Option sy_P := S.2.1
abbrev sy_t (S : sy_S) : Nat → Option (Nat × List Int64) := S.2.2.1
abbrev sy_b (S : sy_S) : List Nat := S.2.2.2.1
abbrev sy_fk (S : sy_S) : Nat := S.2.2.2.2.1
abbrev sy_fp (S : sy_S) : Int32 := S.2.2.2.2.2
/-- what a tray of a sort keeps of a number -/
def sy_cut (so : Nat) (v : Int64) : Int64 := if so = 0 then v.toInt32.toInt8.toInt32.toInt64 else if so = 1 then v.toInt32.toInt16.toInt32.toInt64 else if so = 2 then v.toInt32.toInt64 else v
def sy_ok (S : sy_S) : Prop := sp_ok (sy_p S) ∧ (∀ i, i < 3 → ∀ P, sy_i S i = some P → sp_ok P) ∧ (∀ t, t < 4 → ∀ q, sy_t S t = some q → q.1 < 4 ∧ q.2.length ≤ 30) ∧ (sy_b S).length ≤ 900 ∧ (∀ i, (sy_b S).getD i 0 < 256) ∧ sy_fk S ≤ 4
/-- how it lies -/
def sy_l (S : sy_S) : List (List Nat) := lk_run (lk_flat (sy_n S)) (sy_c S).1
theorem sy_l_ok {S : sy_S} (h : sy_ok S) : lk_ok (sy_n S) (sy_l S) := lk_run_ok _ (lk_flat_ok _) h.1.2.1.1
theorem sv_mk {n : Nat} {s : sv} (h : sv_ok n s) : mk_ok (sv_fr s) (sv_bk s) n := fun c _ => ⟨⟨_, h.2.2.2.1 c, rfl⟩, ⟨_, h.2.2.2.2 c, rfl⟩⟩
theorem l_sum_congr {f g : Nat → Int32} {n : Nat} (h : ∀ i, i < n → f i = g i) : l_sum f n = l_sum g n := by
  induction n with
  | zero => rfl
  | succ n ih => show l_sum f n + f n = l_sum g n + g n; rw [ih (fun i hi => h i (by omega)), h n (by omega)]
theorem lk_mk_congr {fr bk fr2 bk2 : Nat → Int32} {n : Nat} (h1 : ∀ c, c < n → fr c = fr2 c) (h2 : ∀ c, c < n → bk c = bk2 c) {x : Nat} (hx : x / 2 < n) : lk_mk fr bk x = lk_mk fr2 bk2 x := by
  unfold lk_mk; rw [h1 _ hx, h2 _ hx]
theorem lk_tops_congr {fr bk fr2 bk2 : Nat → Int32} {n : Nat} {l : List (List Nat)} (hok : lk_ok n l) (hn : n ≤ 6) (h1 : ∀ c, c < n → fr c = fr2 c) (h2 : ∀ c, c < n → bk c = bk2 c) : lk_tops fr bk l = lk_tops fr2 bk2 l := l_sum_congr (fun t ht => lk_mk_congr h1 h2 (lk_top_half hok hn ht))
theorem lk_unders_congr {fr bk fr2 bk2 : Nat → Int32} {n : Nat} {l : List (List Nat)} (hok : lk_ok n l) (hn : n ≤ 6) (h1 : ∀ c, c < n → fr c = fr2 c) (h2 : ∀ c, c < n → bk c = bk2 c) : lk_unders fr bk l = lk_unders fr2 bk2 l := l_sum_congr (fun t ht => lk_mk_congr h1 h2 (lk_bot_half hok hn ht))
theorem lk_all_congr {fr bk fr2 bk2 : Nat → Int32} {n : Nat} (h1 : ∀ c, c < n → fr c = fr2 c) (h2 : ∀ c, c < n → bk c = bk2 c) : lk_all fr bk n = lk_all fr2 bk2 n := l_sum_congr (fun c hc => by rw [h1 c hc, h2 c hc])
theorem lw_ask_congr {fr bk fr2 bk2 : Nat → Int32} {n folds : Nat} {l : List (List Nat)} (hok : lk_ok n l) (hn : n ≤ 6) (h1 : ∀ c, c < n → fr c = fr2 c) (h2 : ∀ c, c < n → bk c = bk2 c) : lw_ask fr bk n l folds = lw_ask fr2 bk2 n l folds := by
  funext k
  unfold lw_ask
  rw [lk_tops_congr hok hn h1 h2, lk_unders_congr hok hn h1 h2, lk_all_congr h1 h2]
theorem nk_worth_congr {N : nk_N} {fr bk fr2 bk2 : Nat → Int32} {folds : Nat} {l : List (List Nat)} (hok : lk_ok (nk_n N) l) (hn : nk_n N ≤ 6) (h1 : ∀ c, c < nk_n N → fr c = fr2 c) (h2 : ∀ c, c < nk_n N → bk c = bk2 c) : nk_worth N fr bk l folds = nk_worth N fr2 bk2 l folds := by unfold nk_worth; rw [lw_ask_congr hok hn h1 h2]
theorem nk_holds_congr {N : nk_N} {fr bk fr2 bk2 : Nat → Int32} {folds : Nat} {l : List (List Nat)} (hok : lk_ok (nk_n N) l) (hn : nk_n N ≤ 6) (h1 : ∀ c, c < nk_n N → fr c = fr2 c) (h2 : ∀ c, c < nk_n N → bk c = bk2 c) : nk_holds N fr bk l folds = nk_holds N fr2 bk2 l folds := by unfold nk_holds; rw [lw_ask_congr hok hn h1 h2]
theorem nk_likes_congr {N : nk_N} {fr bk fr2 bk2 : Nat → Int32} {folds gs : Nat} {l : List (List Nat)} (hok : lk_ok (nk_n N) l) (hn : nk_n N ≤ 6) (h1 : ∀ c, c < nk_n N → fr c = fr2 c) (h2 : ∀ c, c < nk_n N → bk c = bk2 c) : nk_likes N fr bk l folds gs = nk_likes N fr2 bk2 l folds gs := by
  unfold nk_likes lw_ask2; rw [lw_ask_congr hok hn h1 h2]
/-! ===== operations: what is thrown (0: nothing), the answer, the state behind it ===== -/
abbrev sy_R : Type := Nat × Int32 × sy_S
def op_in (x : Int32) (lo hi : Int) : Bool := decide (lo ≤ x.toInt ∧ x.toInt ≤ hi)
def op_high (x : Int32) (S : sy_S) : sy_R := if op_in x 0 ((sy_l S).length - 1) = true then (0, nI ((sy_l S).getD x.toNatClampNeg []).length, S) else (1, nI 0, S)
def op_above (x : Int32) (S : sy_S) : sy_R := if op_in x 0 ((sy_l S).length - 1) = true then (0, lk_mk (sv_fr (sy_c S)) (sv_bk (sy_c S)) (lk_top ((sy_l S).getD x.toNatClampNeg [])), S) else (1, nI 0, S)
def op_beneath (x : Int32) (S : sy_S) : sy_R := if op_in x 0 ((sy_l S).length - 1) = true then (0, lk_mk (sv_fr (sy_c S)) (sv_bk (sy_c S)) (lk_bot ((sy_l S).getD x.toNatClampNeg [])), S) else (1, nI 0, S)
def op_layer (x y : Int32) (S : sy_S) : sy_R := if op_in x 0 ((sy_l S).length - 1) = true then (if 0 ≤ y then (0, if y.toNatClampNeg < ((sy_l S).getD x.toNatClampNeg []).length then nI (((sy_l S).getD x.toNatClampNeg []).getD y.toNatClampNeg 0 / 2) else -1, S) else (2, nI 0, S)) else (1, nI 0, S)
noncomputable def op_crease (x : Int32) (S : sy_S) : sy_R := if op_in x 0 ((sy_n S : Int) - 2) = true then (0, nI (lk_cr (sy_l S) x.toNatClampNeg), S) else (1, nI 0, S)
def op_folded (x : Int32) (S : sy_S) : sy_R := if 0 ≤ x then (0, if x.toNatClampNeg < (sy_c S).1.length then nI ((sy_c S).1.getD x.toNatClampNeg 0) else -1, S) else (1, nI 0, S)
def op_worth (S : sy_S) : sy_R := (0, nk_worth (sy_N S) (sv_fr (sy_c S)) (sv_bk (sy_c S)) (sy_l S) (sy_c S).1.length, S)
def op_holds (S : sy_S) : sy_R := (0, nd_b (nk_holds (sy_N S) (sv_fr (sy_c S)) (sv_bk (sy_c S)) (sy_l S) (sy_c S).1.length), S)
def op_likes (x : Int32) (S : sy_S) : sy_R := if op_in x 0 ((nk_w (sy_N S)).length - 1) = true then (0, nk_likes (sy_N S) (sv_fr (sy_c S)) (sv_bk (sy_c S)) (sy_l S) (sy_c S).1.length x.toNatClampNeg, S) else (1, nI 0, S)
def op_fault (x : Int32) (S : sy_S) : sy_R := (0, if x = 0 then nI (sy_fk S) else if x = nI 1 then sy_fp S else -1, S)
def op_place (x : Nat) (y : Nat) (p : Nat) (s : sv) : Int32 := if y = 0 then sv_fr s x else if y = 1 then sv_bk s x else if y = 2 then nI (p / 16) else if y = 3 then nI (p / 2 % 8) else nI (p % 2)
noncomputable def op_cell (x y : Int32) (S : sy_S) : sy_R := if op_in x 0 ((sy_n S : Int) - 1) = true then (if op_in y 0 4 = true then (0, op_place x.toNatClampNeg y.toNatClampNeg (lk_pos (sy_l S) x.toNatClampNeg) (sy_c S), S) else (2, nI 0, S)) else (1, nI 0, S)

