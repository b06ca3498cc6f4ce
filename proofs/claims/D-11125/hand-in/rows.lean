section
section
variable {c q : Int64} {a1 a2 a3 a4 a5 a6 : Nat → Int32} {a7 : Nat → Int64} {a8 a9 a10 a11 a12 : Nat → Int32}
/-- bit n of a set of numbers, as the program asks for it -/
def mv_bit (x : Int64) (n : Int32) : Int64 := (x.toUInt64 >>> (n.toInt64.toUInt64 &&& Int64.toUInt64 63)).toInt64 &&& 1
/-- bit r of a set of rows, as the program asks for it -/
def mv_row (x : Int32) (r : Int32) : Int32 := (x >>> (r &&& 31)) &&& 1
/-- how many of the first n rows are in a set of rows -/
def mv_sz (x : Int32) : Nat → Int32
  | 0 => 0
  | n + 1 => mv_sz x n + mv_row x (nI n)
/-- version v is no answer for row r to one who sees the numbers in set -/
def mv_no (set : Int64) (r : Int32) (a1 a2 a4 : Nat → Int32) (v : Nat) : Prop := a1 v = 0 ∨ ¬ a2 v = r ∨ (¬ a4 v = 0 ∧ ¬ mv_bit set (a4 v) = 1)
theorem mv_ix (t : Nat) : nI t * 4 = nI (t * 4) := pk_mul t 4
theorem mv_ix0 (t : Nat) : nI t * 4 + 0 = nI (t * 4) := by
  rw [mv_ix]
  exact nI_add (t * 4) 0
theorem mv_refused {post : Int32 → Prop} (t : Nat) (ht : t < 4) (h0 : a6 t = 0 → post (-2)) (h1 : ¬ a6 t = 0 → post 0) : wpX_refused post (c, q, a1, a2, a3, a4, a5, a6, a7, a8, a9, a10, a11, a12) (nI t) := by
  refine br_f (nI_pos (by omega)) (br_t (nI_lt (b := 4) ht (by decide)) ⟨vp_in_nI ht (by decide), ?_⟩)
  rw [nI_clamp (show t < 2 ^ 31 by omega)]
  exact br_c h0 h1
/-- a running transaction, a row in range -/
theorem mv_rrow {post : Int32 → Prop} (t j : Nat) (ht : t < 4) (h6 : ¬ a6 t = 0) (hj : j < 8) (hp : post 0) : wpX_refusedRow post (c, q, a1, a2, a3, a4, a5, a6, a7, a8, a9, a10, a11, a12) (nI t) (nI j) := by
  unfold wpX_refusedRow
  dsimp only
  exact mv_refused t ht (fun z => absurd z h6) (fun _ => br_t (by decide) (br_f (nI_pos (by omega)) (br_t (nI_lt (b := 8) hj (by decide)) hp)))
/-- a running transaction, a row out of range -/
theorem mv_rrow' {post : Int32 → Prop} (t : Nat) (r : Int32) (ht : t < 4) (h6 : ¬ a6 t = 0) (hr : r < 0 ∨ ¬ r < 8) (hp : post (-1)) : wpX_refusedRow post (c, q, a1, a2, a3, a4, a5, a6, a7, a8, a9, a10, a11, a12) (nI t) r := by
  unfold wpX_refusedRow
  dsimp only
  exact mv_refused t ht (fun z => absurd z h6) (fun _ => br_t (by decide) (br_c (fun _ => hp) (fun z => br_f (hr.resolve_left z) hp)))
theorem mv_changedBy {post : Int32 → Prop} (t : Nat) (ht : t < 4) (h8 : a8 t = 0) (hp : post (0 ||| a10 (t * 4))) : wpX_changedBy post (c, q, a1, a2, a3, a4, a5, a6, a7, a8, a9, a10, a11, a12) (nI t) := by
  refine ⟨2, vp_in_nI ht (by decide), br_f ?_ ⟨pk_in (t * 4) 16 (by omega) (mv_ix0 t), nm_e (nm_e ⟨vp_in_nI ht (by decide), br_t ?_ ?_⟩)⟩⟩
  · rw [nI_clamp (show t < 2 ^ 31 by omega), h8]
    decide
  · rw [nI_clamp (show t < 2 ^ 31 by omega), h8]
    decide
  · rw [mv_ix0, nI_clamp (show t * 4 < 2 ^ 31 by omega)]
    exact hp
theorem mv_ownSet {post : Int64 → Prop} (t : Nat) (ht : t < 4) (h8 : a8 t = 0) (hp : post (0 ||| ((1 : Int64) <<< ((a9 (t * 4)).toInt64 &&& 63)))) : wpX_ownSet post (c, q, a1, a2, a3, a4, a5, a6, a7, a8, a9, a10, a11, a12) (nI t) := by
  refine ⟨2, vp_in_nI ht (by decide), br_f ?_ ⟨pk_in (t * 4) 16 (by omega) (mv_ix0 t), nm_e (nm_e ⟨vp_in_nI ht (by decide), br_t ?_ ?_⟩)⟩⟩
  · rw [nI_clamp (show t < 2 ^ 31 by omega), h8]
    decide
  · rw [nI_clamp (show t < 2 ^ 31 by omega), h8]
    decide
  · rw [mv_ix0, nI_clamp (show t * 4 < 2 ^ 31 by omega)]
    exact hp
theorem mv_sizeOf {post : Int32 → Prop} (x : Int32) (hp : post (mv_sz x 8)) : wpX_sizeOf post (c, q, a1, a2, a3, a4, a5, a6, a7, a8, a9, a10, a11, a12) x :=
  pk_loop (fun n i s => wX_sizeOf_4 post x c q a1 a2 a3 a4 a5 a6 a7 a8 a9 a10 a11 a12 n s (nI i)) (fun i s => s = mv_sz x i) 8 0 0 (by omega) rfl
    (fun n s h => pk_le 8 8 (fun _ => by rw [h]; exact hp) (fun z => absurd z (by omega)))
    (fun n i s hi h hw => pk_le 8 i (fun z => absurd z (by omega)) (fun _ => nm_e (nm_r (nI_1 i) (hw _ (by rw [h]; rfl)))))
/-! who sees what -/
theorem mv_sees0 {post : Int32 → Prop} (set : Int64) (v : Nat) (hv : v < 96) (h : ¬ a4 v = 0) (hb : ¬ mv_bit set (a4 v) = 1) (hp : post 0) : wpX_sees post (c, q, a1, a2, a3, a4, a5, a6, a7, a8, a9, a10, a11, a12) set (nI v) := by
  refine ⟨pk_in v 96 hv, ?_⟩
  rw [nI_clamp (show v < 2 ^ 31 by omega)]
  exact br_f h (br_f hb (br_t rfl hp))
theorem mv_sees1 {post : Int32 → Prop} (set : Int64) (v : Nat) (hv : v < 96) (h : ¬ a4 v = 0) (hb : mv_bit set (a4 v) = 1) (h5 : a5 v = 0) (hp : post 1) : wpX_sees post (c, q, a1, a2, a3, a4, a5, a6, a7, a8, a9, a10, a11, a12) set (nI v) := by
  refine ⟨pk_in v 96 hv, ?_⟩
  rw [nI_clamp (show v < 2 ^ 31 by omega)]
  exact br_f h (br_t hb (br_f (by decide) ⟨pk_in v 96 hv, br_t h5 hp⟩))
theorem mv_vf0 {post : Int32 → Prop} (set : Int64) (r : Int32) (h : ∀ v, v < 96 → mv_no set r a1 a2 a4 v) (hp : post (-1)) : wpX_versionFor post (c, q, a1, a2, a3, a4, a5, a6, a7, a8, a9, a10, a11, a12) set r :=
  pk_loop (σ := Unit) (fun n i _ => wX_versionFor_3 post set r c q a1 a2 a3 a4 a5 a6 a7 a8 a9 a10 a11 a12 n (nI i)) (fun _ _ => True) 96 0 () (by omega) trivial
    (fun n _ _ => pk_le 96 96 (fun _ => hp) (fun z => absurd z (by omega)))
    (fun n i _ hi _ hw => pk_le 96 i (fun z => absurd z (by omega)) (fun _ => ⟨pk_in i 96 hi, by
      rw [nI_clamp (show i < 2 ^ 31 by omega)]
      have nx := nm_r (P := fun x => wX_versionFor_3 post set r c q a1 a2 a3 a4 a5 a6 a7 a8 a9 a10 a11 a12 n x) (nI_1 i) (hw () trivial)
      rcases h i hi with g | g | ⟨g, g'⟩
      · exact br_t g nx
      · exact br_c (fun _ => nx) (fun _ => ⟨pk_in i 96 hi, br_f g nx⟩)
      · exact br_c (fun _ => nx) (fun _ => ⟨pk_in i 96 hi, br_c (fun _ => mv_sees0 set i hi g g' (br_t rfl nx)) (fun _ => nx)⟩)⟩))
/-- the first version is the answer -/
theorem mv_vf1 {post : Int32 → Prop} (set : Int64) (r : Int32) (h1 : ¬ a1 0 = 0) (h2 : a2 0 = r) (h4 : ¬ a4 0 = 0) (hb : mv_bit set (a4 0) = 1) (h5 : a5 0 = 0) (hp : post (nI 0)) : wpX_versionFor post (c, q, a1, a2, a3, a4, a5, a6, a7, a8, a9, a10, a11, a12) set r :=
  ⟨1, pk_le 96 0 (fun z => absurd z (by omega)) (fun _ => ⟨pk_in 0 96 (by omega), br_f h1 ⟨pk_in 0 96 (by omega), br_t h2 (mv_sees1 set 0 (by omega) h4 hb h5 (br_f (by decide) hp))⟩⟩)⟩
theorem mv_vo0 {post : Int32 → Prop} (t : Nat) (r : Int32) (ht : t < 4) (h8 : a8 t = 0) (h : ∀ v, v < 96 → mv_no (a7 t ||| (0 ||| ((1 : Int64) <<< ((a9 (t * 4)).toInt64 &&& 63)))) r a1 a2 a4 v) (hp : post (-1)) : wpX_versionOf post (c, q, a1, a2, a3, a4, a5, a6, a7, a8, a9, a10, a11, a12) (nI t) r := by
  unfold wpX_versionOf
  dsimp only
  refine mv_ownSet t ht h8 ⟨vp_in_nI ht (by decide), ?_⟩
  rw [nI_clamp (show t < 2 ^ 31 by omega)]
  exact mv_vf0 _ r h hp
end
end
section
section
variable {c q : Int64} {a1 a2 a3 a4 a5 a6 : Nat → Int32} {a7 : Nat → Int64} {a8 a9 a10 a11 a12 : Nat → Int32}
/-! a new number, where no version is in use -/
theorem mv_free {post : Int32 → Prop} (n : Nat) (h1 : 1 ≤ n) (hn : n < 63) (hu : ∀ v, v < 96 → a1 v = 0) (hb : ∀ m, 1 ≤ m → m < n → ¬ mv_bit (c ||| q) (nI m) = 0) (he : mv_bit (c ||| q) (nI n) = 0) (hp : post (nI n)) : wpX_freeNumber post (c, q, a1, a2, a3, a4, a5, a6, a7, a8, a9, a10, a11, a12) :=
  nm_e (pk_loop (σ := Unit) (fun k i _ => wX_freeNumber_12 post c q a1 a2 a3 a4 a5 a6 a7 a8 a9 a10 a11 a12 k (c ||| q) (nI i)) (fun _ _ => True) 96 0 () (by omega) trivial
    (fun k _ _ => pk_le 96 96
      (fun _ => pk_loop (σ := Unit) (fun k i _ => wX_freeNumber_59 post (c ||| q) c q a1 a2 a3 a4 a5 a6 a7 a8 a9 a10 a11 a12 k (nI i)) (fun i _ => 1 ≤ i) n 1 () h1 (Nat.le_refl 1)
        (fun k _ _ => pk_le 63 n (fun z => absurd z (by omega)) (fun _ => br_t he hp))
        (fun k i _ hi h hw => pk_le 63 i (fun z => absurd z (by omega)) (fun _ => br_f (hb i h hi) (nm_r (nI_1 i) (hw () (Nat.le_succ_of_le h))))))
      (fun z => absurd z (by omega)))
    (fun k i _ hi _ hw => pk_le 96 i (fun z => absurd z (by omega)) (fun _ => ⟨pk_in i 96 hi, br_t (by rw [nI_clamp (show i < 2 ^ 31 by omega)]; exact hu i hi) (nm_r (nI_1 i) (hw () trivial))⟩)))
theorem mv_newNumber {post : Int32 → St2 → Prop} (n : Nat) (h1 : 1 ≤ n) (hn : n < 63) (hu : ∀ v, v < 96 → a1 v = 0) (hb : ∀ m, 1 ≤ m → m < n → ¬ mv_bit (c ||| q) (nI m) = 0) (he : mv_bit (c ||| q) (nI n) = 0) (hp : post (nI n) (c, q ||| ((1 : Int64) <<< ((nI n).toInt64 &&& 63)), a1, a2, a3, a4, a5, a6, a7, a8, a9, a10, a11, a12)) : wpX_newNumber post (c, q, a1, a2, a3, a4, a5, a6, a7, a8, a9, a10, a11, a12) := by
  unfold wpX_newNumber
  dsimp only
  exact mv_free n h1 hn hu hb he (br_f (nI_ne0 (by omega) (by omega)) (nm_e hp))
theorem mv_open {post : Int32 → St2 → Prop} (t n : Nat) (ht : t < 4) (h6 : a6 t = 0) (h1 : 1 ≤ n) (hn : n < 63) (hu : ∀ v, v < 96 → a1 v = 0) (hb : ∀ m, 1 ≤ m → m < n → ¬ mv_bit (c ||| q) (nI m) = 0) (he : mv_bit (c ||| q) (nI n) = 0)
    (hp : post 0 (c, q ||| ((1 : Int64) <<< ((nI n).toInt64 &&& 63)), a1, a2, a3, a4, a5, upd a6 t 1, vp_updL a7 t c, upd a8 t 0, upd a9 (t * 4) (nI n), upd a10 (t * 4) 0, upd a11 t 0, a12)) : wpX_open post (c, q, a1, a2, a3, a4, a5, a6, a7, a8, a9, a10, a11, a12) (nI t) := by
  unfold wpX_open
  dsimp only
  refine mv_refused t ht (fun _ => br_t rfl (mv_newNumber n h1 hn hu hb he ?_)) (fun z => absurd h6 z)
  dsimp only
  rw [mv_ix, nI_clamp (show t < 2 ^ 31 by omega), nI_clamp (show t * 4 < 2 ^ 31 by omega)]
  exact ⟨vp_in_nI ht (by decide), nm_e ⟨vp_in_nI ht (by decide), nm_e ⟨vp_in_nI ht (by decide), nm_e ⟨vp_in_nI (by omega) (by decide), nm_e ⟨vp_in_nI (by omega) (by decide), nm_e ⟨vp_in_nI ht (by decide), nm_e hp⟩⟩⟩⟩⟩⟩
/-! changing rows -/
/-- transaction u doesn't keep t from changing row r -/
def mv_ok (t : Nat) (r : Int32) (a6 a8 a10 : Nat → Int32) (u : Nat) : Prop := u = t ∨ a6 u = 0 ∨ (a8 u = 0 ∧ ¬ mv_row (0 ||| a10 (u * 4)) r = 1)
theorem mv_blocked {post : Int32 → Prop} (t : Nat) (r : Int32) (ht : t < 4) (b0 : mv_ok t r a6 a8 a10 0) (b1 : mv_ok t r a6 a8 a10 1) (b2 : mv_ok t r a6 a8 a10 2) (b3 : mv_ok t r a6 a8 a10 3)
    (H1 : mv_row (a11 t) r = 1 → post (-5)) (H0 : ¬ mv_row (a11 t) r = 1 → post 0) : wpX_blocked post (c, q, a1, a2, a3, a4, a5, a6, a7, a8, a9, a10, a11, a12) (nI t) r := by
  have b : ∀ u, u < 4 → mv_ok t r a6 a8 a10 u := fun u hu => co_4 (P := fun u => mv_ok t r a6 a8 a10 u) b0 b1 b2 b3 hu
  refine pk_loop (σ := Unit) (fun n i _ => wX_blocked_2 post (nI t) r c q a1 a2 a3 a4 a5 a6 a7 a8 a9 a10 a11 a12 n (nI i)) (fun _ _ => True) 4 0 () (by omega) trivial
    (fun n _ _ => pk_le 4 4 (fun _ => ⟨vp_in_nI ht (by decide), by rw [nI_clamp (show t < 2 ^ 31 by omega)]; exact br_c H1 H0⟩) (fun z => absurd z (by omega)))
    (fun n i _ hi _ hw => pk_le 4 i (fun z => absurd z (by omega)) (fun _ => ?_))
  have nx := nm_r (P := fun x => wX_blocked_2 post (nI t) r c q a1 a2 a3 a4 a5 a6 a7 a8 a9 a10 a11 a12 n x) (nI_1 i) (hw () trivial)
  refine pk_eq i t (fun _ => nx) (fun ne => ⟨pk_in i 4 hi, ?_⟩)
  rw [nI_clamp (show i < 2 ^ 31 by omega)]
  rcases b i hi with e | e | ⟨e, e'⟩
  · exact absurd e ne
  · exact br_t e nx
  · exact br_c (fun _ => nx) (fun _ => mv_changedBy i hi e (br_f e' nx))
/-- transaction 0 keeps 1 from changing a row -/
theorem mv_busy {post : Int32 → Prop} (r : Int32) (h6 : ¬ a6 0 = 0) (h8 : a8 0 = 0) (hb : mv_row (0 ||| a10 (0 * 4)) r = 1) (hp : post (-4)) : wpX_blocked post (c, q, a1, a2, a3, a4, a5, a6, a7, a8, a9, a10, a11, a12) (nI 1) r :=
  ⟨1, pk_le 4 0 (fun z => absurd z (by omega)) (fun _ => pk_eq 0 1 (fun z => absurd z (by omega)) (fun _ => ⟨pk_in 0 4 (by omega), br_f h6 (mv_changedBy 0 (by omega) h8 (br_t hb hp))⟩))⟩
theorem mv_freeVersion {post : Int32 → Prop} (k : Nat) (hk : k < 96) (hu : ∀ v, v < k → ¬ a1 v = 0) (hf : a1 k = 0) (hp : post (nI k)) : wpX_freeVersion post (c, q, a1, a2, a3, a4, a5, a6, a7, a8, a9, a10, a11, a12) :=
  pk_loop (σ := Unit) (fun n i _ => wX_freeVersion_2 post c q a1 a2 a3 a4 a5 a6 a7 a8 a9 a10 a11 a12 n (nI i)) (fun _ _ => True) k 0 () (by omega) trivial
    (fun n _ _ => pk_le 96 k (fun z => absurd z (by omega)) (fun _ => ⟨pk_in k 96 hk, by rw [nI_clamp (show k < 2 ^ 31 by omega)]; exact br_t hf hp⟩))
    (fun n i _ hi _ hw => pk_le 96 i (fun z => absurd z (by omega)) (fun _ => ⟨pk_in i 96 (by omega), by rw [nI_clamp (show i < 2 ^ 31 by omega)]; exact br_f (hu i hi) (nm_r (nI_1 i) (hw () trivial))⟩))
theorem mv_makeVersion {post : St2 → Prop} (k : Nat) (r x n : Int32) (hk : k < 96) (hu : ∀ v, v < k → ¬ a1 v = 0) (hf : a1 k = 0) (hp : post (c, q, upd a1 k 1, upd a2 k r, upd a3 k x, upd a4 k n, upd a5 k 0, a6, a7, a8, a9, a10, a11, a12)) : wpX_makeVersion post (c, q, a1, a2, a3, a4, a5, a6, a7, a8, a9, a10, a11, a12) r x n := by
  unfold wpX_makeVersion
  dsimp only
  refine mv_freeVersion k hk hu hf (br_t (nI_pos' (by omega)) ?_)
  unfold wX_makeVersion_21
  rw [nI_clamp (show k < 2 ^ 31 by omega)]
  have hi : vp_in (nI k) 96 := vp_in_nI hk (by decide)
  exact ⟨hi, nm_e ⟨hi, nm_e ⟨hi, nm_e ⟨hi, nm_e ⟨hi, nm_e hp⟩⟩⟩⟩⟩
theorem mv_current {post : Int32 → Prop} (t : Nat) (ht : t < 4) (h8 : a8 t = 0) (hp : post (nI (t * 4))) : wpX_current post (c, q, a1, a2, a3, a4, a5, a6, a7, a8, a9, a10, a11, a12) (nI t) := by
  refine ⟨vp_in_nI ht (by decide), ?_⟩
  rw [nI_clamp (show t < 2 ^ 31 by omega), h8, mv_ix0]
  exact hp
/-- a row of which nothing is seen: a new version in the first free place -/
theorem mv_write {post : St2 → Prop} (t k : Nat) (r x : Int32) (ht : t < 4) (h8 : a8 t = 0) (hk : k < 96) (hu : ∀ v, v < k → ¬ a1 v = 0) (hf : a1 k = 0)
    (hp : post (c, q, upd a1 k 1, upd a2 k r, upd a3 k x, upd a4 k (a9 (t * 4)), upd a5 k 0, a6, a7, a8, a9, upd a10 (t * 4) (a10 (t * 4) ||| ((1 : Int32) <<< (r &&& 31))), a11, a12)) : wpX_write post (c, q, a1, a2, a3, a4, a5, a6, a7, a8, a9, a10, a11, a12) (nI t) r (-1) x := by
  unfold wpX_write
  dsimp only
  have hi : vp_in (nI (t * 4)) 16 := vp_in_nI (by omega) (by decide)
  have e4 : (nI (t * 4)).toNatClampNeg = t * 4 := nI_clamp (by omega)
  refine mv_current t ht h8 ⟨hi, nm_r (congrArg a9 e4) (mv_current t ht h8 (mv_current t ht h8 ⟨hi, hi, nm_r (e' := upd a10 (t * 4) (a10 (t * 4) ||| ((1 : Int32) <<< (r &&& 31)))) (by rw [e4]) (br_t (by decide) ?_)⟩))⟩
  unfold wX_write_62
  refine br_t (by decide) ?_
  unfold wX_write_74
  exact mv_makeVersion k r x _ hk hu hf hp
theorem mv_put_out {post : Int32 → St2 → Prop} (t : Nat) (r x : Int32) (ht : t < 4) (h6 : ¬ a6 t = 0) (hr : r < 0 ∨ ¬ r < 8) (hp : post (-1) (c, q, a1, a2, a3, a4, a5, a6, a7, a8, a9, a10, a11, a12)) : wpX_put post (c, q, a1, a2, a3, a4, a5, a6, a7, a8, a9, a10, a11, a12) (nI t) r x := by
  unfold wpX_put
  dsimp only
  exact mv_rrow' t r ht h6 hr (br_f (by decide) hp)
theorem mv_put_busy {post : Int32 → St2 → Prop} (j : Nat) (x : Int32) (hj : j < 8) (h61 : ¬ a6 1 = 0) (h6 : ¬ a6 0 = 0) (h8 : a8 0 = 0) (hb : mv_row (0 ||| a10 (0 * 4)) (nI j) = 1) (hp : post (-4) (c, q, a1, a2, a3, a4, a5, a6, a7, a8, a9, a10, a11, a12)) : wpX_put post (c, q, a1, a2, a3, a4, a5, a6, a7, a8, a9, a10, a11, a12) (nI 1) (nI j) x := by
  unfold wpX_put
  dsimp only
  exact mv_rrow 1 j (by decide) h61 hj (br_t (by decide) (mv_busy (nI j) h6 h8 hb (br_f (by decide) hp)))
theorem mv_put_stale {post : Int32 → St2 → Prop} (t j : Nat) (x : Int32) (ht : t < 4) (hj : j < 8) (h6 : ¬ a6 t = 0) (b0 : mv_ok t (nI j) a6 a8 a10 0) (b1 : mv_ok t (nI j) a6 a8 a10 1) (b2 : mv_ok t (nI j) a6 a8 a10 2) (b3 : mv_ok t (nI j) a6 a8 a10 3) (hs : mv_row (a11 t) (nI j) = 1) (hp : post (-5) (c, q, a1, a2, a3, a4, a5, a6, a7, a8, a9, a10, a11, a12)) : wpX_put post (c, q, a1, a2, a3, a4, a5, a6, a7, a8, a9, a10, a11, a12) (nI t) (nI j) x := by
  unfold wpX_put
  dsimp only
  exact mv_rrow t j ht h6 hj (br_t (by decide) (mv_blocked t (nI j) ht b0 b1 b2 b3 (fun _ => br_f (by decide) hp) (fun z => absurd hs z)))
theorem mv_put_new {post : Int32 → St2 → Prop} (t j k : Nat) (x : Int32) (ht : t < 4) (hj : j < 8) (hk : k < 96) (h6 : ¬ a6 t = 0) (h8 : a8 t = 0) (b0 : mv_ok t (nI j) a6 a8 a10 0) (b1 : mv_ok t (nI j) a6 a8 a10 1) (b2 : mv_ok t (nI j) a6 a8 a10 2) (b3 : mv_ok t (nI j) a6 a8 a10 3) (hs : ¬ mv_row (a11 t) (nI j) = 1)
    (hv : ∀ v, v < 96 → mv_no (a7 t ||| (0 ||| ((1 : Int64) <<< ((a9 (t * 4)).toInt64 &&& 63)))) (nI j) a1 a2 a4 v) (hu : ∀ v, v < k → ¬ a1 v = 0) (hf : a1 k = 0)
    (hp : post 0 (c, q, upd a1 k 1, upd a2 k (nI j), upd a3 k x, upd a4 k (a9 (t * 4)), upd a5 k 0, a6, a7, a8, a9, upd a10 (t * 4) (a10 (t * 4) ||| ((1 : Int32) <<< (nI j &&& 31))), a11, a12)) : wpX_put post (c, q, a1, a2, a3, a4, a5, a6, a7, a8, a9, a10, a11, a12) (nI t) (nI j) x := by
  unfold wpX_put
  dsimp only
  exact mv_rrow t j ht h6 hj (br_t (by decide) (mv_blocked t (nI j) ht b0 b1 b2 b3 (fun z => absurd z hs) (fun _ => br_t (by decide) (mv_vo0 t (nI j) ht h8 hv (mv_write t k (nI j) x ht h8 hk hu hf (br_f (by decide) hp))))))
/-! reading -/
theorem mv_has_out {post : Int32 → Prop} (t : Nat) (r : Int32) (ht : t < 4) (h6 : ¬ a6 t = 0) (hr : r < 0 ∨ ¬ r < 8) (hp : post 0) : wpX_has post (c, q, a1, a2, a3, a4, a5, a6, a7, a8, a9, a10, a11, a12) (nI t) r := by
  unfold wpX_has
  dsimp only
  exact mv_rrow' t r ht h6 hr (br_f (by decide) hp)
theorem mv_has_no {post : Int32 → Prop} (t j : Nat) (ht : t < 4) (hj : j < 8) (h6 : ¬ a6 t = 0) (h8 : a8 t = 0) (hv : ∀ v, v < 96 → mv_no (a7 t ||| (0 ||| ((1 : Int64) <<< ((a9 (t * 4)).toInt64 &&& 63)))) (nI j) a1 a2 a4 v) (hp : post 0) : wpX_has post (c, q, a1, a2, a3, a4, a5, a6, a7, a8, a9, a10, a11, a12) (nI t) (nI j) := by
  unfold wpX_has
  dsimp only
  exact mv_rrow t j ht h6 hj (br_t rfl (mv_vo0 t (nI j) ht h8 hv (br_t (by decide) hp)))
theorem mv_changed {post : Int32 → Prop} (t : Nat) (ht : t < 4) (h6 : ¬ a6 t = 0) (h8 : a8 t = 0) (hp : post (0 ||| a10 (t * 4))) : wpX_changed post (c, q, a1, a2, a3, a4, a5, a6, a7, a8, a9, a10, a11, a12) (nI t) := by
  unfold wpX_changed
  dsimp only
  exact mv_refused t ht (fun z => absurd z h6) (fun _ => br_t (by decide) (mv_changedBy t ht h8 hp))
theorem mv_committed_out {post : Int32 → Prop} (r : Int32) (hr : r < 0 ∨ ¬ r < 8) (hp : post 0) : wpX_committed post (c, q, a1, a2, a3, a4, a5, a6, a7, a8, a9, a10, a11, a12) r :=
  br_c (fun _ => hp) (fun z => br_f (hr.resolve_left z) hp)
theorem mv_committed {post : Int32 → Prop} (j : Nat) (hj : j < 8) (h1 : ¬ a1 0 = 0) (h2 : a2 0 = nI j) (h4 : ¬ a4 0 = 0) (hb : mv_bit c (a4 0) = 1) (h5 : a5 0 = 0) (hp : post (a3 0)) : wpX_committed post (c, q, a1, a2, a3, a4, a5, a6, a7, a8, a9, a10, a11, a12) (nI j) :=
  br_f (nI_pos (by omega)) (br_t (nI_lt (b := 8) hj (by decide)) (mv_vf1 c (nI j) h1 h2 h4 hb h5 (br_t (by decide) ⟨pk_in 0 96 (by omega), hp⟩)))
/-! ends -/
theorem mv_fill {post : Int32 → St2 → Prop} (x : Int32) (hp : ∀ b11, (∀ u, u < 4 → b11 u = a11 u ||| x) → post (mv_sz x 8) (c, q, a1, a2, a3, a4, a5, a6, a7, a8, a9, a10, b11, a12)) : ∃ n, wX_close_53 post x c q n 0 a1 a2 a3 a4 a5 a6 a7 a8 a9 a10 a11 a12 :=
  pk_loop (fun n i s => wX_close_53 post x c q n (nI i) a1 a2 a3 a4 a5 a6 a7 a8 a9 a10 s a12) (fun i s => (∀ u, u < i → s u = a11 u ||| x) ∧ (∀ u, i ≤ u → s u = a11 u)) 4 0 a11 (by omega) ⟨fun u h => absurd h (by omega), fun u _ => rfl⟩
    (fun n s h => pk_le 4 4 (fun _ => mv_sizeOf x (hp s h.1)) (fun z => absurd z (by omega)))
    (fun n i s hi h hw => pk_le 4 i (fun z => absurd z (by omega)) (fun _ => ⟨pk_in i 4 hi, pk_in i 4 hi, nm_r (e' := upd s i (s i ||| x)) (by rw [nI_clamp (show i < 2 ^ 31 by omega)]) (nm_r (nI_1 i) (hw _ ⟨fun u hu => by
        by_cases e : u = i
        · rw [e, pk_us, h.2 i (by omega)]
        · rw [pk_un e, h.1 u (by omega)], fun u hu => by
        rw [pk_un (show u ≠ i by omega), h.2 u (by omega)]⟩))⟩))
theorem mv_commit {post : Int32 → St2 → Prop} (t : Nat) (ht : t < 4) (h6 : ¬ a6 t = 0) (h8 : a8 t = 0)
    (hp : ∀ q' b11, (∀ u, u < 4 → b11 u = a11 u ||| (0 ||| a10 (t * 4))) → post (mv_sz (0 ||| a10 (t * 4)) 8) (c ||| (0 ||| ((1 : Int64) <<< ((a9 (t * 4)).toInt64 &&& 63))), q', a1, a2, a3, a4, a5, upd a6 t 0, a7, a8, a9, a10, b11, a12)) : wpX_commit post (c, q, a1, a2, a3, a4, a5, a6, a7, a8, a9, a10, a11, a12) (nI t) := by
  unfold wpX_commit
  dsimp only
  refine mv_refused t ht (fun z => absurd z h6) (fun _ => br_t (by decide) ?_)
  unfold wpX_close
  dsimp only
  refine mv_changedBy t ht h8 (mv_ownSet t ht h8 (nm_e ⟨vp_in_nI ht (by decide), nm_r (e' := upd a6 t 0) (by rw [nI_clamp (show t < 2 ^ 31 by omega)]) (br_f (by decide) (nm_e (mv_fill _ (fun b hb => hp _ b hb))))⟩))
end
end
section
/-! tables over the eight rows -/
theorem mv_t0 : ∀ k, k < 8 → ¬ mv_row 0 (nI k) = 1 := by decide +kernel
theorem mv_t1 : ∀ k, k < 8 → ¬ mv_row (0 ||| 0) (nI k) = 1 := by decide +kernel
theorem mv_t2 : ∀ j, j < 8 → mv_row (0 ||| (0 ||| ((1 : Int32) <<< (nI j &&& 31)))) (nI j) = 1 := by decide +kernel
theorem mv_t3 : ∀ j, j < 8 → ∀ k, k < 8 → ¬ j = k → ¬ mv_row (0 ||| (0 ||| ((1 : Int32) <<< (nI j &&& 31)))) (nI k) = 1 := by decide +kernel
theorem mv_t4 : ∀ j, j < 8 → mv_sz (0 ||| (0 ||| ((1 : Int32) <<< (nI j &&& 31)))) 8 = 1 := by decide +kernel
theorem mv_t5 : mv_sz (0 ||| 0) 8 = 0 := by decide +kernel
theorem mv_t6 : ∀ k, k < 8 → (0 : Int32) ||| (0 ||| ((1 : Int32) <<< (nI k &&& 31))) = (1 : Int32) <<< ((nI k &&& 7) &&& 31) := by decide +kernel
theorem mv_t7 : ∀ j, j < 8 → mv_row (0 ||| (0 ||| (0 ||| ((1 : Int32) <<< (nI j &&& 31))))) (nI j) = 1 := by decide +kernel
theorem mv_t8 : (0 : Int32) ||| 0 = 0 := by decide +kernel
theorem mv_out {x : Int32} (h : nI 8 ≤ x) : ¬ x < 8 := fun h' => absurd h (Int32.not_le.mpr h')
theorem mv_out7 {x : Int32} (h : x < 0 ∨ ¬ x < 8) (h0 : ¬ x < 0) : 7 < x := by
  have g := Int32.not_lt.mp (h.resolve_left h0)
  rw [Int32.le_iff_toInt_le] at g
  rw [Int32.lt_iff_toInt_lt]
  have e8 : (8 : Int32).toInt = 8 := by decide
  have e7 : (7 : Int32).toInt = 7 := by decide
  omega
/-- one version, which is no answer -/
theorem mv_vs1 {set : Int64} {r y n : Int32} {a1 a2 a4 : Nat → Int32} (h1 : ∀ v, a1 v = 0) (h : ¬ y = r ∨ (¬ n = 0 ∧ ¬ mv_bit set n = 1)) : ∀ v, v < 96 → mv_no set r (upd a1 0 1) (upd a2 0 y) (upd a4 0 n) v := by
  intro v _
  unfold mv_no
  by_cases e : v = 0
  · rw [e, pk_us, pk_us, pk_us]
    exact Or.inr h
  · rw [pk_un e]
    exact Or.inl (h1 v)
/-- two versions, which are no answers -/
theorem mv_vs2 {set : Int64} {r y n y' n' : Int32} {a1 a2 a4 : Nat → Int32} (h1 : ∀ v, a1 v = 0) (h : ¬ y = r ∨ (¬ n = 0 ∧ ¬ mv_bit set n = 1)) (h' : ¬ y' = r ∨ (¬ n' = 0 ∧ ¬ mv_bit set n' = 1)) : ∀ v, v < 96 → mv_no set r (upd (upd a1 0 1) 1 1) (upd (upd a2 0 y) 1 y') (upd (upd a4 0 n) 1 n') v := by
  intro v hv
  by_cases e : v = 1
  · unfold mv_no
    rw [e, pk_us, pk_us, pk_us]
    exact Or.inr h'
  · have g := mv_vs1 (set := set) (r := r) (a2 := a2) (a4 := a4) h1 h v hv
    unfold mv_no at g ⊢
    rw [pk_un e, pk_un e, pk_un e]
    exact g
/-! the law's joins -/
section
variable {post : Int32 → St0 → Prop} {mc ms kc ks : Nat} {x0 x1 x2 x5 x6 x7 x8 x9 x10 x11 x12 x13 x14 x15 x16 z0 z1 : Int32}
theorem mv_275 (hz : z1 = z0) (h12 : x12 = if x13 = 0 then 0 else x2) (hp : post 1 ()) : wL_lawOf_275 post mc ms x2 x12 x13 z0 z1 kc ks :=
  br_t hz (br_c (fun e => br_t (h12.trans (if_pos e)) hp) (fun e => br_t (h12.trans (if_neg e)) hp))
theorem mv_260 (hz : z1 = z0) (h11 : x11 = if x16 = 0 then 0 else 1) (h12 : x12 = if x13 = 0 then 0 else x2) (hp : post 1 ()) : wL_lawOf_260 post mc ms x2 x11 x12 x13 x16 z0 z1 kc ks :=
  br_t hz (br_c (fun e => mv_275 (h11.trans (if_pos e)) h12 hp) (fun e => mv_275 (h11.trans (if_neg e)) h12 hp))
theorem mv_235 (hz : z1 = z0) (h9 : x9 = 0) (h10 : x10 = if x16 = 0 then 0 else (1 : Int32) <<< ((x1 &&& 7) &&& 31)) (h11 : x11 = if x16 = 0 then 0 else 1) (h12 : x12 = if x13 = 0 then 0 else x2) (hp : post 1 ()) : wL_lawOf_235 post mc ms x1 x2 x9 x10 x11 x12 x13 x16 z0 z1 kc ks :=
  br_t hz (br_t h9 (br_c (fun e => mv_260 (h10.trans (if_pos e)) h11 h12 hp) (fun e => mv_260 (h10.trans (if_neg e)) h11 h12 hp)))
theorem mv_219 (hz : z1 = z0) (h8 : x8 = if x13 = 0 then -1 else -5) (h9 : x9 = 0) (h10 : x10 = if x16 = 0 then 0 else (1 : Int32) <<< ((x1 &&& 7) &&& 31)) (h11 : x11 = if x16 = 0 then 0 else 1) (h12 : x12 = if x13 = 0 then 0 else x2) (hp : post 1 ()) : wL_lawOf_219 post mc ms x1 x2 x8 x9 x10 x11 x12 x13 x16 z0 z1 kc ks :=
  br_t hz (br_c (fun e => mv_235 (h8.trans (if_pos e)) h9 h10 h11 h12 hp) (fun e => mv_235 (h8.trans (if_neg e)) h9 h10 h11 h12 hp))
theorem mv_204 (hz : z1 = z0) (h7 : x7 = if x13 = 0 then 0 else 1) (h8 : x8 = if x13 = 0 then -1 else -5) (h9 : x9 = 0) (h10 : x10 = if x16 = 0 then 0 else (1 : Int32) <<< ((x1 &&& 7) &&& 31)) (h11 : x11 = if x16 = 0 then 0 else 1) (h12 : x12 = if x13 = 0 then 0 else x2) (hp : post 1 ()) : wL_lawOf_204 post mc ms x1 x2 x7 x8 x9 x10 x11 x12 x13 x16 z0 z1 kc ks :=
  br_t hz (br_c (fun e => mv_219 (h7.trans (if_pos e)) h8 h9 h10 h11 h12 hp) (fun e => mv_219 (h7.trans (if_neg e)) h8 h9 h10 h11 h12 hp))
theorem mv_179 (hz : z1 = z0) (h6 : x6 = if x14 = 0 then -1 else if x15 = 0 then 0 else -4) (h7 : x7 = if x13 = 0 then 0 else 1) (h8 : x8 = if x13 = 0 then -1 else -5) (h9 : x9 = 0) (h10 : x10 = if x16 = 0 then 0 else (1 : Int32) <<< ((x1 &&& 7) &&& 31)) (h11 : x11 = if x16 = 0 then 0 else 1) (h12 : x12 = if x13 = 0 then 0 else x2) (hp : post 1 ()) : wL_lawOf_179 post mc ms x1 x2 x6 x7 x8 x9 x10 x11 x12 x13 x14 x15 x16 z0 z1 kc ks :=
  br_t hz (br_c (fun e => mv_204 (h6.trans (if_pos e)) h7 h8 h9 h10 h11 h12 hp) (fun e => br_c (fun g => mv_204 ((h6.trans (if_neg e)).trans (if_pos g)) h7 h8 h9 h10 h11 h12 hp) (fun g => mv_204 ((h6.trans (if_neg e)).trans (if_neg g)) h7 h8 h9 h10 h11 h12 hp)))
theorem mv_165 (h5 : x5 = if x13 = 0 then -1 else 0) (h6 : x6 = if x14 = 0 then -1 else if x15 = 0 then 0 else -4) (h7 : x7 = if x13 = 0 then 0 else 1) (h8 : x8 = if x13 = 0 then -1 else -5) (h9 : x9 = 0) (h10 : x10 = if z0 = 0 then 0 else (1 : Int32) <<< ((x1 &&& 7) &&& 31)) (h11 : x11 = if z0 = 0 then 0 else 1) (h12 : x12 = if x13 = 0 then 0 else x2) (hp : post 1 ()) : wL_lawOf_165 post mc ms x1 x2 x5 x6 x7 x8 x9 x10 x11 x12 x13 x14 x15 z0 kc ks :=
  br_c (fun e => mv_179 (h5.trans (if_pos e)) h6 h7 h8 h9 h10 h11 h12 hp) (fun e => mv_179 (h5.trans (if_neg e)) h6 h7 h8 h9 h10 h11 h12 hp)
/-- neither row is in range -/
theorem mv_A (hs : x1 < 0 ∨ ¬ x1 < 8) (h5 : x5 = -1) (h6 : x6 = -1) (h7 : x7 = 0) (h8 : x8 = -1) (h9 : x9 = 0) (h10 : x10 = 0) (h11 : x11 = 0) (h12 : x12 = 0) (hp : post 1 ()) : wL_lawOf_109 post mc ms x0 x1 x2 x5 x6 x7 x8 x9 x10 x11 x12 0 kc ks := by
  have H : wL_lawOf_126 post mc ms x0 x1 x2 x5 x6 x7 x8 x9 x10 x11 x12 0 0 kc ks := br_t rfl (br_t rfl (mv_165 h5 h6 h7 h8 h9 h10 h11 h12 hp))
  exact br_c (fun _ => H) (fun z => br_t (mv_out7 hs z) H)
/-- the second alone -/
theorem mv_B {k : Nat} (hk : k < 8) (h5 : x5 = -1) (h6 : x6 = 0) (h7 : x7 = 0) (h8 : x8 = -1) (h9 : x9 = 0) (h10 : x10 = (1 : Int32) <<< ((nI k &&& 7) &&& 31)) (h11 : x11 = 1) (h12 : x12 = 0) (hp : post 1 ()) : wL_lawOf_109 post mc ms x0 (nI k) x2 x5 x6 x7 x8 x9 x10 x11 x12 0 kc ks := by
  have H : wL_lawOf_126 post mc ms x0 (nI k) x2 x5 x6 x7 x8 x9 x10 x11 x12 0 1 kc ks := br_t rfl (br_f (by decide) (br_t rfl (mv_165 h5 h6 h7 h8 h9 h10 h11 h12 hp)))
  exact br_f (nI_pos (by omega)) (br_f (nI_nlt (a := 7) (by omega) (by decide)) H)
/-- the first alone -/
theorem mv_C (hs : x1 < 0 ∨ ¬ x1 < 8) (h5 : x5 = 0) (h6 : x6 = -1) (h7 : x7 = 1) (h8 : x8 = -5) (h9 : x9 = 0) (h10 : x10 = 0) (h11 : x11 = 0) (h12 : x12 = x2) (hp : post 1 ()) : wL_lawOf_109 post mc ms x0 x1 x2 x5 x6 x7 x8 x9 x10 x11 x12 1 kc ks := by
  have H : wL_lawOf_126 post mc ms x0 x1 x2 x5 x6 x7 x8 x9 x10 x11 x12 1 0 kc ks := br_f (by decide) (br_t rfl (br_t rfl (mv_165 h5 h6 h7 h8 h9 h10 h11 h12 hp)))
  exact br_c (fun _ => H) (fun z => br_t (mv_out7 hs z) H)
/-- both, and they are one -/
theorem mv_D {j : Nat} (hj : j < 8) (h5 : x5 = 0) (h6 : x6 = -4) (h7 : x7 = 1) (h8 : x8 = -5) (h9 : x9 = 0) (h10 : x10 = 0) (h11 : x11 = 0) (h12 : x12 = x2) (hp : post 1 ()) : wL_lawOf_109 post mc ms (nI j) (nI j) x2 x5 x6 x7 x8 x9 x10 x11 x12 1 kc ks := by
  have H : wL_lawOf_126 post mc ms (nI j) (nI j) x2 x5 x6 x7 x8 x9 x10 x11 x12 1 1 kc ks := br_f (by decide) (br_f (by decide) (br_t rfl (br_f (by decide) (br_f (by decide) (mv_165 h5 h6 h7 h8 h9 h10 h11 h12 hp)))))
  exact br_f (nI_pos (by omega)) (br_f (nI_nlt (a := 7) (by omega) (by decide)) H)
/-- both, and they differ -/
theorem mv_E {j k : Nat} (hk : k < 8) (hn : ¬ nI j = nI k) (h5 : x5 = 0) (h6 : x6 = 0) (h7 : x7 = 1) (h8 : x8 = -5) (h9 : x9 = 0) (h10 : x10 = (1 : Int32) <<< ((nI k &&& 7) &&& 31)) (h11 : x11 = 1) (h12 : x12 = x2) (hp : post 1 ()) : wL_lawOf_109 post mc ms (nI j) (nI k) x2 x5 x6 x7 x8 x9 x10 x11 x12 1 kc ks := by
  have H : wL_lawOf_126 post mc ms (nI j) (nI k) x2 x5 x6 x7 x8 x9 x10 x11 x12 1 1 kc ks := br_f (by decide) (br_f (by decide) (br_f hn (br_f (by decide) (br_t rfl (mv_165 h5 h6 h7 h8 h9 h10 h11 h12 hp)))))
  exact br_f (nI_pos (by omega)) (br_f (nI_nlt (a := 7) (by omega) (by decide)) H)
end
end
section
theorem mv_lawOf {post : Int32 → St0 → Prop} (hp : post 1 ()) (p0 p1 p2 p3 : Int32) : wpL_lawOf post 13 558 () p0 p1 p2 p3 := by
  unfold wpL_lawOf
  refine ⟨by decide, by decide, 12, 544, by decide, by decide, ?_⟩
  refine ⟨by decide, by decide, by decide, by decide, by decide, by decide, by decide, by decide, by decide, by decide, by decide, by decide, by decide, by decide, by decide, by decide, by decide, by decide, by decide, by decide, by decide, by decide, by decide, by decide, ?_⟩
  dsimp only
  refine mv_open 0 1 (by decide) rfl (by decide) (by decide) (fun _ _ => rfl) (fun m h1 h2 => absurd h2 (by omega)) (by decide) ?_
  dsimp only
  refine mv_open 1 2 (by decide) rfl (by decide) (by decide) (fun _ _ => rfl) (fun m h1 h2 => by
    have e : m = 1 := by omega
    subst e
    decide) (by decide) ?_
  dsimp only
  have pick : ∀ x : Int32, (x < 0 ∨ ¬ x < 8) ∨ ∃ j : Nat, j < 8 ∧ x = nI j := fun x => by
    rcases pk_ix x (n := 8) (by decide) with h | h | h
    · exact Or.inl (Or.inl h)
    · exact Or.inl (Or.inr (mv_out h))
    · exact Or.inr h
  rcases pick p0 with hr | ⟨j, hj, rfl⟩
  · rcases pick p1 with hs | ⟨k, hk, rfl⟩
    · refine mv_put_out 0 p0 p2 (by decide) (by decide) hr ?_
      dsimp only
      refine mv_put_out 1 p1 p3 (by decide) (by decide) hs ?_
      dsimp only
      refine mv_commit 0 (by decide) (by decide) rfl (fun q1 b1 hb1 => ?_)
      dsimp only
      refine mv_put_out 1 p0 p3 (by decide) (by decide) hr ?_
      dsimp only
      refine mv_has_out 1 p0 (by decide) (by decide) hr ?_
      refine mv_changed 1 (by decide) (by decide) rfl ?_
      refine mv_commit 1 (by decide) (by decide) rfl (fun q2 b2 hb2 => ?_)
      dsimp only
      refine mv_committed_out p0 hr ?_
      have H := mv_A (post := post) (mc := 13) (ms := 558) (kc := 1 + 12) (ks := 14 + 544) (x0 := p0) (x2 := p2) hs rfl rfl mv_t5 rfl rfl mv_t8 mv_t5 rfl hp
      exact br_c (fun _ => H) (fun z => br_t (mv_out7 hr z) H)
    · refine mv_put_out 0 p0 p2 (by decide) (by decide) hr ?_
      dsimp only
      refine mv_put_new 1 k 0 p3 (by decide) hk (by decide) (by decide) rfl (Or.inr (Or.inr ⟨rfl, mv_t1 k hk⟩)) (Or.inl rfl) (Or.inr (Or.inl rfl)) (Or.inr (Or.inl rfl)) (mv_t0 k hk) (fun v _ => Or.inl rfl) (fun v h => absurd h (by omega)) rfl ?_
      dsimp only
      refine mv_commit 0 (by decide) (by decide) rfl (fun q1 b1 hb1 => ?_)
      dsimp only
      refine mv_put_out 1 p0 p3 (by decide) (by decide) hr ?_
      dsimp only
      refine mv_has_out 1 p0 (by decide) (by decide) hr ?_
      refine mv_changed 1 (by decide) (by decide) rfl ?_
      refine mv_commit 1 (by decide) (by decide) rfl (fun q2 b2 hb2 => ?_)
      dsimp only
      refine mv_committed_out p0 hr ?_
      have H := mv_B (post := post) (mc := 13) (ms := 558) (kc := 1 + 12) (ks := 14 + 544) (x0 := p0) (x2 := p2) hk rfl rfl mv_t5 rfl rfl (mv_t6 k hk) (mv_t4 k hk) rfl hp
      exact br_c (fun _ => H) (fun z => br_t (mv_out7 hr z) H)
  · refine mv_put_new 0 j 0 p2 (by decide) hj (by decide) (by decide) rfl (Or.inl rfl) (Or.inr (Or.inr ⟨rfl, mv_t1 j hj⟩)) (Or.inr (Or.inl rfl)) (Or.inr (Or.inl rfl)) (mv_t0 j hj) (fun v _ => Or.inl rfl) (fun v h => absurd h (by omega)) rfl ?_
    dsimp only
    rcases pick p1 with hs | ⟨k, hk, rfl⟩
    · refine mv_put_out 1 p1 p3 (by decide) (by decide) hs ?_
      dsimp only
      refine mv_commit 0 (by decide) (by decide) rfl (fun q1 b1 hb1 => ?_)
      dsimp only
      refine mv_put_stale 1 j p3 (by decide) hj (by decide) (Or.inr (Or.inl rfl)) (Or.inl rfl) (Or.inr (Or.inl rfl)) (Or.inr (Or.inl rfl)) ((congrArg (fun x => mv_row x (nI j)) (hb1 1 (by decide))).trans (mv_t7 j hj)) ?_
      dsimp only
      refine mv_has_no 1 j (by decide) hj (by decide) rfl (mv_vs1 (fun _ => rfl) (Or.inr ⟨by decide, by decide⟩)) ?_
      refine mv_changed 1 (by decide) (by decide) rfl ?_
      refine mv_commit 1 (by decide) (by decide) rfl (fun q2 b2 hb2 => ?_)
      dsimp only
      refine mv_committed j hj (by decide) rfl (by decide) (by decide) rfl ?_
      exact br_f (nI_pos (by omega)) (br_f (nI_nlt (a := 7) (by omega) (by decide)) (mv_C hs rfl rfl (mv_t4 j hj) rfl rfl mv_t8 mv_t5 rfl hp))
    · by_cases e : j = k
      · subst e
        refine mv_put_busy j p3 hj (by decide) (by decide) rfl (mv_t2 j hj) ?_
        dsimp only
        refine mv_commit 0 (by decide) (by decide) rfl (fun q1 b1 hb1 => ?_)
        dsimp only
        refine mv_put_stale 1 j p3 (by decide) hj (by decide) (Or.inr (Or.inl rfl)) (Or.inl rfl) (Or.inr (Or.inl rfl)) (Or.inr (Or.inl rfl)) ((congrArg (fun x => mv_row x (nI j)) (hb1 1 (by decide))).trans (mv_t7 j hj)) ?_
        dsimp only
        refine mv_has_no 1 j (by decide) hj (by decide) rfl (mv_vs1 (fun _ => rfl) (Or.inr ⟨by decide, by decide⟩)) ?_
        refine mv_changed 1 (by decide) (by decide) rfl ?_
        refine mv_commit 1 (by decide) (by decide) rfl (fun q2 b2 hb2 => ?_)
        dsimp only
        refine mv_committed j hj (by decide) rfl (by decide) (by decide) rfl ?_
        exact br_f (nI_pos (by omega)) (br_f (nI_nlt (a := 7) (by omega) (by decide)) (mv_D hj rfl rfl (mv_t4 j hj) rfl rfl mv_t8 mv_t5 rfl hp))
      · have ne : ¬ nI j = nI k := fun g => e ((nI_eq (by omega) (by omega)).mp g)
        have ne' : ¬ nI k = nI j := fun g => ne g.symm
        refine mv_put_new 1 k 1 p3 (by decide) hk (by decide) (by decide) rfl (Or.inr (Or.inr ⟨rfl, mv_t3 j hj k hk e⟩)) (Or.inl rfl) (Or.inr (Or.inl rfl)) (Or.inr (Or.inl rfl)) (mv_t0 k hk) (mv_vs1 (fun _ => rfl) (Or.inl ne)) (fun v h => by
          have e : v = 0 := by omega
          subst e
          decide) rfl ?_
        dsimp only
        refine mv_commit 0 (by decide) (by decide) rfl (fun q1 b1 hb1 => ?_)
        dsimp only
        refine mv_put_stale 1 j p3 (by decide) hj (by decide) (Or.inr (Or.inl rfl)) (Or.inl rfl) (Or.inr (Or.inl rfl)) (Or.inr (Or.inl rfl)) ((congrArg (fun x => mv_row x (nI j)) (hb1 1 (by decide))).trans (mv_t7 j hj)) ?_
        dsimp only
        refine mv_has_no 1 j (by decide) hj (by decide) rfl (mv_vs2 (fun _ => rfl) (Or.inr ⟨by decide, by decide⟩) (Or.inl ne')) ?_
        refine mv_changed 1 (by decide) (by decide) rfl ?_
        refine mv_commit 1 (by decide) (by decide) rfl (fun q2 b2 hb2 => ?_)
        dsimp only
        refine mv_committed j hj (by decide) rfl (by decide) (by decide) rfl ?_
        exact br_f (nI_pos (by omega)) (br_f (nI_nlt (a := 7) (by omega) (by decide)) (mv_E hk ne rfl rfl (mv_t4 j hj) rfl rfl (mv_t6 k hk) (mv_t4 k hk) rfl hp))
theorem mv_cell {post : Int32 → Prop} {L : Nat} {xs : Nat → Int32} (hL : L ≤ 4) (k : Nat) (hk : k < 4) (h : ∀ x, post x) : wpL_cellAt post L xs () (nI k) :=
  pk_le L k (fun _ => h 0) (fun z => ⟨pk_in k L z, h _⟩)
theorem i_vc (xs : Nat → Int32) (L : Nat) (hL : L ≤ 4) : wpL_law (fun r => r = 1) L xs := by
  unfold wpL_law
  exact mv_cell hL 0 (by decide) (fun p0 => mv_cell hL 1 (by decide) (fun p1 => mv_cell hL 2 (by decide) (fun p2 => mv_cell hL 3 (by decide) (fun p3 => ⟨13, 558, by decide, by decide, mv_lawOf rfl p0 p1 p2 p3⟩))))
end
