/-- a napkin as told: cells, lines, wishes, three laws' steps -/
abbrev nk_N : Type := Nat × Nat × List Nat × List Nat × List Nat × List Nat
abbrev nk_n (N : nk_N) : Nat := N.1
abbrev nk_ln (N : nk_N) : Nat := N.2.1
abbrev nk_w (N : nk_N) : List Nat := N.2.2.1
abbrev nk_wp (N : nk_N) : List Nat := N.2.2.2.1
abbrev nk_hp (N : nk_N) : List Nat := N.2.2.2.2.1
abbrev nk_lp (N : nk_N) : List Nat := N.2.2.2.2.2
def nk_ok (N : nk_N) : Prop := nk_n N ≤ 6 ∧ nk_ln N ≤ 900 ∧ (nk_w N).length ≤ 4 ∧ (∀ i, i < (nk_w N).length → (nk_w N).getD i 0 < 100) ∧ (nk_wp N = [] ∨ lw_wf 6 0 (nk_wp N)) ∧ (nk_wp N).length ≤ 900 ∧ (nk_hp N = [] ∨ lw_wf 6 0 (nk_hp N)) ∧ (nk_hp N).length ≤ 900 ∧ (nk_lp N = [] ∨ lw_wf 8 0 (nk_lp N)) ∧ (nk_lp N).length ≤ 900
def nk_worth (N : nk_N) (fr bk : Nat → Int32) (l : List (List Nat)) (folds : Nat) : Int32 := lw_val (lw_ask fr bk (nk_n N) l folds) (nk_wp N)
def nk_holds (N : nk_N) (fr bk : Nat → Int32) (l : List (List Nat)) (folds : Nat) : Bool := decide (nk_hp N ≠ []) && decide (lw_val (lw_ask fr bk (nk_n N) l folds) (nk_hp N) = nI 1)
def nk_likes (N : nk_N) (fr bk : Nat → Int32) (l : List (List Nat)) (folds gs : Nat) : Int32 := lw_val (lw_ask2 fr bk (nk_n N) l folds gs (nI ((nk_w N).getD gs 0))) (nk_lp N)
/-! ===== plain laws: codes of looks ===== -/
noncomputable def lk_code (l : List (List Nat)) : Nat → Nat
  | 0 => 0
  | c + 1 => 128 * lk_code l c + lk_pos l c
def lk_ord (l : List (List Nat)) : Nat → Nat
  | 0 => 0
  | k + 1 => 8 * lk_ord l k + (l.getD 0 []).getD k 0 / 2
/-- a look is read so from above: numbers, none of them (-1) for any -/
def lk_reads (fr bk : Nat → Int32) (l : List (List Nat)) (v : List Int64) : Bool := decide (l.length = v.length) && (List.range v.length).all (fun k => decide (v.getD k 0 = -1) || decide (v.getD k 0 = (lk_mk fr bk (lk_top (l.getD k []))).toInt64))
/-- a look is a stack: in one column, cells as told -/
def lk_stack (n : Nat) (l : List (List Nat)) (v : List Int64) : Bool := decide (l.length ≤ 1) && (List.range n).all (fun k => decide (lN ((l.getD 0 []).getD k 0 / 2) = v.getD k 0))
/-- a look has creases as told -/
noncomputable def lk_made (l : List (List Nat)) (v : List Int64) : Bool := (List.range v.length).all (fun k => decide (v.getD k 0 = lN (lk_cr l k)))
/-- what the guest that likes it least says -/
def nk_least (N : nk_N) (fr bk : Nat → Int32) (l : List (List Nat)) (folds : Nat) (s : Int32) : Nat → Int32
  | 0 => s
  | gs + 1 => if nk_likes N fr bk l folds gs < nk_least N fr bk l folds s gs then nk_likes N fr bk l folds gs else nk_least N fr bk l folds s gs
/-- nobody likes it less than now, somebody more -/
def nk_better (N : nk_N) (fr bk : Nat → Int32) (l : List (List Nat)) (folds : Nat) (now : Nat → Int32) : Bool := (List.range (nk_w N).length).all (fun gs => decide (now gs ≤ nk_likes N fr bk l folds gs)) && (List.range (nk_w N).length).any (fun gs => decide (now gs < nk_likes N fr bk l folds gs))

