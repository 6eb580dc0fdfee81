section
/-- is x within the bounds: 1 or 0 -/
def pc_w (x lo hi : Int32) : Int32 := if x < lo then 0 else if hi < x then 0 else 1
theorem pc_w01 (x lo hi : Int32) : pc_w x lo hi = 0 ∨ pc_w x lo hi = 1 := by
  unfold pc_w
  split
  · exact Or.inl rfl
  · split
    · exact Or.inl rfl
    · exact Or.inr rfl
theorem pc_and1 {w : Int32} (h : w = 0 ∨ w = 1) : (1 : Int32) &&& w = w := by
  rcases h with h | h <;> subst h <;> decide
theorem pc_bit1 : ∀ i, i < 16 → ((1 : Int32) >>> (nI i &&& 31)) &&& 1 = if i = 0 then 1 else 0 := by decide +kernel
theorem pc_bit0 : ∀ i, i < 16 → ((0 : Int32) >>> (nI i &&& 31)) &&& 1 = if i = 0 then 0 else 0 := by decide +kernel
theorem pc_bitx {x : Int32} (hx : x = 0 ∨ x = 1) (i : Nat) (hi : i < 16) : (x >>> (nI i &&& 31)) &&& 1 = if i = 0 then x else 0 := by
  rcases hx with h | h <;> subst h
  · exact pc_bit0 i hi
  · exact pc_bit1 i hi
theorem pc_3j (j : Nat) : (3 : Int32) * 0 + nI j = nI j := by
  rw [show (3 : Int32) * 0 = 0 by decide, Int32.zero_add]
theorem pc_3r (j : Nat) : (3 : Int32) * (0 - 0 / 16 * 16) + nI j = nI j := by
  rw [show (3 : Int32) * (0 - 0 / 16 * 16) = 0 by decide, Int32.zero_add]
theorem pc_16 (i : Nat) : (16 : Int32) * 0 + nI i = nI i := by
  rw [show (16 : Int32) * 0 = 0 by decide, Int32.zero_add]
theorem pc_init {post : St2 → Prop} (h : post (0, 0, 0, 0, 0, 0, (fun _ => 0), (fun _ => 0), (fun _ => 0), (fun _ => 0), (fun _ => 0), (fun _ => 0), (fun _ => 0), (fun _ => 0), (fun _ => 0), (fun _ => 0), (fun _ => 0), (fun _ => 0), (fun _ => 0), (fun _ => 0), (fun _ => 0), (fun _ => 0), (fun _ => 0), (fun _ => 0), (fun _ => 0), (fun _ => 0), (fun _ => 0), (fun _ => 0))) : wpX_init post 22 1483 (0, 0, 0, 0, 0, 0) :=
  And.intro (by decide) (And.intro (by decide) (And.intro (by decide) (And.intro (by decide) (And.intro (by decide) (And.intro (by decide) (And.intro (by decide) (And.intro (by decide) (And.intro (by decide) (And.intro (by decide) (And.intro (by decide) (And.intro (by decide) (And.intro (by decide) (And.intro (by decide) (And.intro (by decide) (And.intro (by decide) (And.intro (by decide) (And.intro (by decide) (And.intro (by decide) (And.intro (by decide) (And.intro (by decide) (And.intro (by decide) (And.intro (by decide) (And.intro (by decide) (And.intro (by decide) (And.intro (by decide) (And.intro (by decide) (And.intro (by decide) (And.intro (by decide) (And.intro (by decide) (And.intro (by decide) (And.intro (by decide) (And.intro (by decide) (And.intro (by decide) (And.intro (by decide) (And.intro (by decide) (And.intro (by decide) (And.intro (by decide) (And.intro (by decide) (And.intro (by decide) (And.intro (by decide) (And.intro (by decide) (And.intro (by decide) (And.intro (by decide) (h))))))))))))))))))))))))))))))))))))))))))))
section
variable {rc pc di co ga : Int32} {ls : Int64} {a1 a2 a3 a4 a5 a6 a7 a8 a9 a10 a11 a12 a13 a14 a15 a16 a17 a18 a19 a20 a21 a22 : Nat → Int32}
theorem pc_within {post : Int32 → Prop} {x lo hi : Int32} (h : post (pc_w x lo hi)) : wpX_isWithin post (rc, pc, di, co, ga, ls, a1, a2, a3, a4, a5, a6, a7, a8, a9, a10, a11, a12, a13, a14, a15, a16, a17, a18, a19, a20, a21, a22) x lo hi := by
  unfold pc_w at h
  by_cases h1 : x < lo
  · rw [if_pos h1] at h
    exact br_t h1 h
  · rw [if_neg h1] at h
    by_cases h2 : hi < x
    · rw [if_pos h2] at h
      exact br_f h1 (br_t h2 h)
    · rw [if_neg h2] at h
      exact br_f h1 (br_f h2 h)
theorem pc_block {post : Int32 → Prop} (h : post 0) : wpX_blockCount post (1, pc, di, co, ga, ls, a1, a2, a3, a4, a5, a6, a7, a8, a9, a10, a11, a12, a13, a14, a15, a16, a17, a18, a19, a20, a21, a22) := by
  have e : (1 : Int32) / 16 = 0 := by decide
  have h' : post (1 / 16) := by
    rw [e]
    exact h
  exact And.intro (by decide) h'
theorem pc_bad1 {post : Int32 → Prop} {c : Int32} (hc : c < 0 ∨ ¬ c < 3) (h : post 1) : wpX_badColumn post (rc, pc, di, co, ga, ls, a1, a2, a3, a4, a5, a6, a7, a8, a9, a10, a11, a12, a13, a14, a15, a16, a17, a18, a19, a20, a21, a22) c := by
  rcases hc with z | z
  · exact br_t z h
  · exact br_c (fun _ => h) (fun _ => br_f z h)
theorem pc_bad0 {post : Int32 → Prop} {j : Nat} (hj : j < 3) (h : post 0) : wpX_badColumn post (rc, pc, di, co, ga, ls, a1, a2, a3, a4, a5, a6, a7, a8, a9, a10, a11, a12, a13, a14, a15, a16, a17, a18, a19, a20, a21, a22) (nI j) :=
  br_f (nI_pos (by omega)) (br_t (nI_lt (b := 3) hj (by decide)) h)
theorem pc_loose {post : Int32 → Prop} {j : Nat} {lo hi : Int32} (hj : j < 3) (h : post (pc_w (a12 j) lo hi)) : wpX_looseWithin post (1, pc, di, co, ga, ls, a1, a2, a3, a4, a5, a6, a7, a8, a9, a10, a11, a12, a13, a14, a15, a16, a17, a18, a19, a20, a21, a22) (nI j) lo hi := by
  have fin : ∀ x, post x → wX_looseWithin_6 post (nI j) lo hi 1 pc di co ga ls a1 a2 a3 a4 a5 a6 a7 a8 a9 a10 a11 a12 a13 a14 a15 a16 a17 a18 a19 a20 a21 a22 1 x (0 + 1) := fun x hx => And.intro (by decide) (br_t (by decide) hx)
  refine Exists.intro 2 (And.intro (by decide) (br_f (by decide) ?_))
  rw [pc_3j, nI_clamp (show j < 2 ^ 31 by omega)]
  refine ⟨vp_in_nI (by omega) (by decide), pc_within ?_⟩
  rcases pc_w01 (a12 j) lo hi with e | e
  · rw [e] at h ⊢
    exact br_t rfl (nm_e (fin _ h))
  · rw [e] at h ⊢
    exact br_f (by decide) (nm_r (e' := 1) (by decide) (nm_e (fin _ h)))
theorem pc_live {post : Int32 → Prop} (ha : a1 0 = 0) (h : post 1) : wpX_liveSet post (1, pc, di, co, ga, ls, a1, a2, a3, a4, a5, a6, a7, a8, a9, a10, a11, a12, a13, a14, a15, a16, a17, a18, a19, a20, a21, a22) 0 := by
  refine pk_loop (fun n i s => wX_liveSet_4 post 0 1 pc di co ga ls a1 a2 a3 a4 a5 a6 a7 a8 a9 a10 a11 a12 a13 a14 a15 a16 a17 a18 a19 a20 a21 a22 n s (nI i)) (fun i s => s = if i = 0 then 0 else 1) 16 0 0 (by omega) rfl ?_ ?_
  · intro n s hs
    have hs' : s = 1 := hs
    subst hs'
    exact br_t (by decide) h
  · intro n i s hi hs hw
    refine pk_le 16 i (fun z => absurd z (by omega)) (fun _ => nm_r (pc_16 i) ?_)
    by_cases e : i = 0
    · subst e
      have hs' : s = 0 := hs
      subst hs'
      exact br_f (by decide) ⟨pk_in 0 96 (by decide), br_t ha (nm_r (e' := 1) (by decide) (nm_r (nI_1 0) (hw 1 rfl)))⟩
    · rw [if_neg e] at hs
      refine br_t (nI_le (a := 1) (by omega) (by omega)) (nm_r (nI_1 i) (hw s ?_))
      rw [if_neg (by omega)]
      exact hs
theorem pc_bits {post : Int32 → Prop} {x : Int32} (hx : x = 0 ∨ x = 1) (h : post x) : wpX_bitsOf post (rc, pc, di, co, ga, ls, a1, a2, a3, a4, a5, a6, a7, a8, a9, a10, a11, a12, a13, a14, a15, a16, a17, a18, a19, a20, a21, a22) x := by
  refine pk_loop (fun n i s => wX_bitsOf_4 post x rc pc di co ga ls a1 a2 a3 a4 a5 a6 a7 a8 a9 a10 a11 a12 a13 a14 a15 a16 a17 a18 a19 a20 a21 a22 n s (nI i)) (fun i s => s = if i = 0 then 0 else x) 16 0 0 (by omega) rfl ?_ ?_
  · intro n s hs
    have hs' : s = x := hs
    subst hs'
    exact br_t (by decide) h
  · intro n i s hi hs hw
    refine pk_le 16 i (fun z => absurd z (by omega)) (fun _ => ?_)
    rw [pc_bitx hx i hi]
    refine nm_r (e' := x) ?_ (nm_r (nI_1 i) (hw x ?_))
    · rw [hs]
      by_cases e : i = 0
      · rw [if_pos e, if_pos e, Int32.zero_add]
      · rw [if_neg e, if_neg e, Int32.add_zero]
    · rw [if_neg (by omega)]
theorem pc_choose0 {post : St2 → Prop} (ha : a1 0 = 0) (h : post (1, pc, di, 0, ga, ls, a1, a2, a3, a4, a5, a6, a7, a8, a9, a10, a11, a12, a13, a14, a15, a16, a17, a18, a19, upd a20 0 1, a21, a22)) : wpX_choose post (1, pc, di, 0, ga, ls, a1, a2, a3, a4, a5, a6, a7, a8, a9, a10, a11, a12, a13, a14, a15, a16, a17, a18, a19, a20, a21, a22) := by
  unfold wpX_choose
  exact pc_block (Exists.intro 2 (br_f (by decide) (br_f (by decide) (pc_live ha (Exists.intro 1 (br_t (by decide) ⟨pk_in 0 7 (by decide), nm_e (nm_e (br_t (by decide) h))⟩))))))
theorem pc_choose1 {post : St2 → Prop} {j : Nat} {lo hi : Int32} (hj : j < 3) (ha : a1 0 = 0) (h17 : a17 0 = nI j) (h18 : a18 0 = lo) (h19 : a19 0 = hi) (h : post (1, pc, di, 1, ga, ls, a1, a2, a3, a4, a5, a6, a7, a8, a9, a10, a11, a12, a13, a14, a15, a16, a17, a18, a19, upd a20 0 (pc_w (a12 j) lo hi), a21, a22)) : wpX_choose post (1, pc, di, 1, ga, ls, a1, a2, a3, a4, a5, a6, a7, a8, a9, a10, a11, a12, a13, a14, a15, a16, a17, a18, a19, a20, a21, a22) := by
  unfold wpX_choose
  exact pc_block (Exists.intro 2 (br_f (by decide) (br_f (by decide) (pc_live ha (Exists.intro 2 (br_f (by decide) (br_f (by decide) ⟨pk_in 0 4 (by decide), nm_r h17 ⟨pk_in 0 4 (by decide), nm_r h18 ⟨pk_in 0 4 (by decide), nm_r h19 (br_t rfl (pc_loose hj (nm_r (pc_and1 (pc_w01 _ _ _)) (nm_e (br_t (by decide) ⟨pk_in 0 7 (by decide), nm_e (nm_e (br_t (by decide) h))⟩)))))⟩⟩⟩)))))))
theorem pc_count8 {post : Int32 → St2 → Prop} (hx : a20 0 = 0 ∨ a20 0 = 1) (h : post (a20 0) (1, pc, di, co, ga, ls, a1, a2, a3, a4, a5, a6, a7, a8, a9, a10, a11, a12, a13, a14, a15, a16, a17, a18, a19, a20, a21, a22)) : ∃ n, wX_count_8 post 1 pc di co ga ls a1 a2 a3 a4 a5 a6 a7 a8 a9 a10 a11 a12 a13 a14 a15 a16 a17 a18 a19 a20 a21 a22 n 0 0 := by
  refine Exists.intro 2 ?_
  unfold wX_count_8
  refine pc_block (br_f (by decide) ⟨pk_in 0 7 (by decide), pc_bits hx (nm_r (Int32.zero_add _) (nm_e ?_))⟩)
  unfold wX_count_8
  exact pc_block (br_t (by decide) h)
theorem pc_count0 {post : Int32 → St2 → Prop} (ha : a1 0 = 0) (h : post 1 (1, pc, di, 0, ga, ls, a1, a2, a3, a4, a5, a6, a7, a8, a9, a10, a11, a12, a13, a14, a15, a16, a17, a18, a19, upd a20 0 1, a21, a22)) : wpX_count post (1, pc, di, 0, ga, ls, a1, a2, a3, a4, a5, a6, a7, a8, a9, a10, a11, a12, a13, a14, a15, a16, a17, a18, a19, a20, a21, a22) := by
  unfold wpX_count
  exact pc_choose0 ha (pc_count8 (Or.inr pk_us) (ek_v (P := fun x => post x (1, pc, di, 0, ga, ls, a1, a2, a3, a4, a5, a6, a7, a8, a9, a10, a11, a12, a13, a14, a15, a16, a17, a18, a19, upd a20 0 1, a21, a22)) pk_us h))
theorem pc_count1 {post : Int32 → St2 → Prop} {j : Nat} {lo hi : Int32} (hj : j < 3) (ha : a1 0 = 0) (h17 : a17 0 = nI j) (h18 : a18 0 = lo) (h19 : a19 0 = hi) (h : post (pc_w (a12 j) lo hi) (1, pc, di, 1, ga, ls, a1, a2, a3, a4, a5, a6, a7, a8, a9, a10, a11, a12, a13, a14, a15, a16, a17, a18, a19, upd a20 0 (pc_w (a12 j) lo hi), a21, a22)) : wpX_count post (1, pc, di, 1, ga, ls, a1, a2, a3, a4, a5, a6, a7, a8, a9, a10, a11, a12, a13, a14, a15, a16, a17, a18, a19, a20, a21, a22) := by
  unfold wpX_count
  exact pc_choose1 hj ha h17 h18 h19 (pc_count8 (by rw [pk_us]; exact pc_w01 _ _ _) (ek_v (P := fun x => post x (1, pc, di, 1, ga, ls, a1, a2, a3, a4, a5, a6, a7, a8, a9, a10, a11, a12, a13, a14, a15, a16, a17, a18, a19, upd a20 0 (pc_w (a12 j) lo hi), a21, a22)) pk_us h))
theorem pc_append {post : Int32 → St2 → Prop} {x y z : Int32} (h : post 0 (1, pc, di, co, ga, ls, upd a1 0 0, a2, a3, a4, a5, a6, a7, a8, a9, a10, a11, upd (upd (upd a12 0 x) 1 y) 2 z, a13, a14, a15, a16, a17, a18, a19, a20, a21, a22)) : wpX_append post (0, pc, di, co, ga, ls, a1, a2, a3, a4, a5, a6, a7, a8, a9, a10, a11, a12, a13, a14, a15, a16, a17, a18, a19, a20, a21, a22) x y z :=
  br_f (by decide) (And.intro (by decide) (nm_r (e' := 0) (by decide) ⟨pk_in 0 48 (by decide), nm_r (e' := upd a12 0 x) (by rw [show ((3 : Int32) * 0).toNatClampNeg = 0 by decide]) ⟨pk_in 1 48 (by decide), nm_r (e' := upd (upd a12 0 x) 1 y) (by rw [show ((3 : Int32) * 0 + 1).toNatClampNeg = 1 by decide]) ⟨pk_in 2 48 (by decide), nm_r (e' := upd (upd (upd a12 0 x) 1 y) 2 z) (by rw [show ((3 : Int32) * 0 + 2).toNatClampNeg = 2 by decide]) ⟨pk_in 0 96 (by decide), nm_r (e' := upd a1 0 0) (by rw [sb_cl0]) (nm_r (e' := 1) (by decide) (br_f (by decide) (ek_v (P := fun v => post v (1, pc, di, co, ga, ls, upd a1 0 0, a2, a3, a4, a5, a6, a7, a8, a9, a10, a11, upd (upd (upd a12 0 x) 1 y) 2 z, a13, a14, a15, a16, a17, a18, a19, a20, a21, a22)) (show (1 : Int32) - 1 = 0 by decide) h)))⟩⟩⟩⟩))
theorem pc_cond_bad {post : Int32 → St2 → Prop} {c lo hi : Int32} (hc : c < 0 ∨ ¬ c < 3) (h : post (-1000000001) (rc, pc, di, co, ga, ls, a1, a2, a3, a4, a5, a6, a7, a8, a9, a10, a11, a12, a13, a14, a15, a16, a17, a18, a19, a20, a21, a22)) : wpX_condition post (rc, pc, di, co, ga, ls, a1, a2, a3, a4, a5, a6, a7, a8, a9, a10, a11, a12, a13, a14, a15, a16, a17, a18, a19, a20, a21, a22) c lo hi := by
  unfold wpX_condition
  exact pc_bad1 hc (br_f (by decide) h)
theorem pc_cond {post : Int32 → St2 → Prop} {j : Nat} {lo hi : Int32} (hj : j < 3) (h : post 1 (rc, pc, di, 1, ga, ls, a1, a2, a3, a4, a5, a6, a7, a8, a9, a10, a11, a12, a13, a14, a15, a16, upd a17 0 (nI j), upd a18 0 lo, upd a19 0 hi, a20, a21, a22)) : wpX_condition post (rc, pc, di, 0, ga, ls, a1, a2, a3, a4, a5, a6, a7, a8, a9, a10, a11, a12, a13, a14, a15, a16, a17, a18, a19, a20, a21, a22) (nI j) lo hi := by
  unfold wpX_condition
  exact pc_bad0 hj (br_t rfl (br_f (by decide) ⟨pk_in 0 4 (by decide), nm_e ⟨pk_in 0 4 (by decide), nm_e ⟨pk_in 0 4 (by decide), nm_e (nm_r (e' := 1) (by decide) h)⟩⟩⟩))
theorem pc_row0 {post : Int32 → Prop} (ha : a1 0 = 0) (h : post 0) : wpX_noRow post (1, pc, di, co, ga, ls, a1, a2, a3, a4, a5, a6, a7, a8, a9, a10, a11, a12, a13, a14, a15, a16, a17, a18, a19, a20, a21, a22) 0 :=
  br_f (by decide) (br_f (by decide) ⟨pk_in 0 96 (by decide), br_t ha h⟩)
theorem pc_row1 {post : Int32 → Prop} {r : Int32} (hr : r < 0 ∨ 1 ≤ r) (h : post 1) : wpX_noRow post (1, pc, di, co, ga, ls, a1, a2, a3, a4, a5, a6, a7, a8, a9, a10, a11, a12, a13, a14, a15, a16, a17, a18, a19, a20, a21, a22) r := by
  rcases hr with z | z
  · exact br_t z h
  · exact br_c (fun _ => h) (fun _ => br_t z h)
theorem pc_change_bad {post : Int32 → St2 → Prop} {r c x : Int32} (hc : c < 0 ∨ ¬ c < 3) (h : post (-1000000001) (rc, pc, di, co, ga, ls, a1, a2, a3, a4, a5, a6, a7, a8, a9, a10, a11, a12, a13, a14, a15, a16, a17, a18, a19, a20, a21, a22)) : wpX_change post (rc, pc, di, co, ga, ls, a1, a2, a3, a4, a5, a6, a7, a8, a9, a10, a11, a12, a13, a14, a15, a16, a17, a18, a19, a20, a21, a22) r c x := by
  unfold wpX_change
  exact pc_bad1 hc (br_f (by decide) h)
theorem pc_change_none {post : Int32 → St2 → Prop} {r x : Int32} {j : Nat} (hj : j < 3) (hr : r < 0 ∨ 1 ≤ r) (h : post (-1000000003) (1, pc, di, co, ga, ls, a1, a2, a3, a4, a5, a6, a7, a8, a9, a10, a11, a12, a13, a14, a15, a16, a17, a18, a19, a20, a21, a22)) : wpX_change post (1, pc, di, co, ga, ls, a1, a2, a3, a4, a5, a6, a7, a8, a9, a10, a11, a12, a13, a14, a15, a16, a17, a18, a19, a20, a21, a22) r (nI j) x := by
  unfold wpX_change
  exact pc_bad0 hj (br_t rfl (pc_row1 hr (br_f (by decide) h)))
theorem pc_value {post : Int32 → St2 → Prop} {j : Nat} (hj : j < 3) (h : post (a12 j) (1, pc, di, co, ga, ls, a1, a2, a3, a4, a5, a6, a7, a8, a9, a10, a11, a12, a13, a14, a15, a16, a17, a18, a19, a20, a21, a22)) : wpX_valueAt post (1, pc, di, co, ga, ls, a1, a2, a3, a4, a5, a6, a7, a8, a9, a10, a11, a12, a13, a14, a15, a16, a17, a18, a19, a20, a21, a22) 0 (nI j) := by
  refine And.intro (by decide) (nm_r (e' := 0) (by decide) (pc_block (br_t rfl ⟨by decide, ?_⟩)))
  rw [pc_3r, nI_clamp (show j < 2 ^ 31 by omega)]
  exact ⟨vp_in_nI (by omega) (by decide), h⟩
theorem pc_change0 {post : Int32 → St2 → Prop} {x : Int32} {j : Nat} (hj : j < 3) (ha : a1 0 = 0) (h : post (a12 j) (1, pc, di, co, ga, ls, a1, a2, a3, a4, a5, a6, a7, a8, a9, a10, a11, upd a12 j x, a13, a14, a15, a16, a17, a18, a19, a20, a21, a22)) : wpX_change post (1, pc, di, co, ga, ls, a1, a2, a3, a4, a5, a6, a7, a8, a9, a10, a11, a12, a13, a14, a15, a16, a17, a18, a19, a20, a21, a22) 0 (nI j) x := by
  unfold wpX_change
  refine pc_bad0 hj (br_t rfl (pc_row0 ha (br_t rfl (pc_value hj ⟨by decide, pc_block (br_t (by decide) ⟨by decide, ?_⟩)⟩))))
  rw [pc_3r, nI_clamp (show j < 2 ^ 31 by omega)]
  exact ⟨vp_in_nI (by omega) (by decide), nm_e h⟩
theorem pc_load {post : St2 → Prop} {j : Nat} (hj : j < 3) (h : post (1, pc, di, co, ga, ls, a1, a2, a3, a4, a5, a6, a7, a8, a9, a10, a11, a12, a13, a14, upd a15 0 (a12 j), a16, a17, a18, a19, a20, a21, a22)) : wpX_load post (1, pc, di, co, ga, ls, a1, a2, a3, a4, a5, a6, a7, a8, a9, a10, a11, a12, a13, a14, a15, a16, a17, a18, a19, a20, a21, a22) 0 (nI j) := by
  unfold wpX_load
  refine pc_block (br_t rfl (Exists.intro 2 (And.intro (by decide) (br_f (by decide) ?_))))
  rw [pc_3j, nI_clamp (show j < 2 ^ 31 by omega)]
  exact ⟨vp_in_nI (by omega) (by decide), pk_in 0 16 (by decide), nm_e (nm_e (And.intro (by decide) (br_t (by decide) h)))⟩
theorem pc_gblock {post : St2 → Prop} (h : post (rc, pc, di, co, 1, ls, a1, a2, a3, a4, a5, a6, a7, a8, a9, a10, a11, a12, a13, a14, a15, a16, a17, a18, a19, a20, upd a21 0 (a15 0), a22)) : wpX_gatherBlock post (rc, pc, di, co, 0, ls, a1, a2, a3, a4, a5, a6, a7, a8, a9, a10, a11, a12, a13, a14, a15, a16, a17, a18, a19, a20, a21, a22) 1 := by
  refine pk_loop (σ := Int32 × (Nat → Int32)) (fun n i s => wX_gatherBlock_2 post 1 rc pc di co ls n (nI i) s.1 a1 a2 a3 a4 a5 a6 a7 a8 a9 a10 a11 a12 a13 a14 a15 a16 a17 a18 a19 a20 s.2 a22) (fun i s => s = if i = 0 then (0, a21) else (1, upd a21 0 (a15 0))) 16 0 (0, a21) (by omega) rfl ?_ ?_
  · intro n s hs
    have hs' : s = (1, upd a21 0 (a15 0)) := hs
    subst hs'
    exact br_t (by decide) h
  · intro n i s hi hs hw
    refine pk_le 16 i (fun z => absurd z (by omega)) (fun _ => ?_)
    rw [pc_bit1 i hi]
    by_cases e : i = 0
    · subst e
      have hs' : s = (0, a21) := hs
      subst hs'
      exact br_t rfl ⟨pk_in 0 16 (by decide), pk_in 0 96 (by decide), nm_e (nm_r (e' := 1) (show (0 : Int32) + 1 = 1 by decide) (nm_r (nI_1 0) (hw (1, upd a21 0 (a15 0)) rfl)))⟩
    · rw [if_neg e]
      rw [if_neg e] at hs
      refine br_f (by decide) (nm_r (nI_1 i) (hw s ?_))
      rw [if_neg (by omega)]
      exact hs
theorem pc_sum {post : Int32 → St2 → Prop} {j : Nat} {lo hi : Int32} (hj : j < 3) (ha : a1 0 = 0) (h17 : a17 0 = nI j) (h18 : a18 0 = lo) (h19 : a19 0 = hi)
    (h : ∀ g b c d, post (if pc_w (a12 j) lo hi = 0 then 0 else a12 j) (1, pc, di, 1, g, ls, a1, a2, a3, a4, a5, a6, a7, a8, a9, a10, a11, a12, a13, a14, b, a16, a17, a18, a19, c, d, a22)) : wpX_sum post (1, pc, di, 1, ga, ls, a1, a2, a3, a4, a5, a6, a7, a8, a9, a10, a11, a12, a13, a14, a15, a16, a17, a18, a19, a20, a21, a22) (nI j) := by
  unfold wpX_sum
  refine pc_bad0 hj (br_t rfl (pc_choose1 hj ha h17 h18 h19 (pc_block (Exists.intro 2 (br_f (by decide) ⟨pk_in 0 7 (by decide), ?_⟩)))))
  rcases pc_w01 (a12 j) lo hi with e | e
  · rw [e] at h ⊢
    rw [if_pos rfl] at h
    exact br_t pk_us (nm_e (br_t (by decide) (Exists.intro 1 (br_t (by decide) (h _ _ _ _)))))
  · rw [e] at h ⊢
    rw [if_neg (by decide)] at h
    refine br_f ?_ (pc_load hj ⟨pk_in 0 7 (by decide), ?_⟩)
    · show ¬ upd a20 0 1 0 = 0
      rw [pk_us]
      decide
    · show wpX_gatherBlock _ _ (upd a20 0 1 0)
      rw [pk_us]
      refine pc_gblock (nm_e (br_t (by decide) (Exists.intro 2 (br_f (by decide) ⟨pk_in 0 96 (by decide), nm_r (e' := a12 j) ?_ (nm_e (br_t (by decide) (h _ _ _ _)))⟩))))
      show 0 + upd a21 0 (upd a15 0 (a12 j) 0) 0 = a12 j
      rw [pk_us, pk_us, Int32.zero_add]
theorem pc_sum_bad {post : Int32 → St2 → Prop} {c : Int32} (hc : c < 0 ∨ ¬ c < 3) (h : post (-1000000001) (rc, pc, di, co, ga, ls, a1, a2, a3, a4, a5, a6, a7, a8, a9, a10, a11, a12, a13, a14, a15, a16, a17, a18, a19, a20, a21, a22)) : wpX_sum post (rc, pc, di, co, ga, ls, a1, a2, a3, a4, a5, a6, a7, a8, a9, a10, a11, a12, a13, a14, a15, a16, a17, a18, a19, a20, a21, a22) c := by
  unfold wpX_sum
  exact pc_bad1 hc (br_f (by decide) h)
theorem pc_delete {post : Int32 → St2 → Prop} {r : Int32} (ha : a1 0 = 0) (h : ∀ a, post (if r = 0 then 0 else -1000000003) (1, pc, di, co, ga, ls, a, a2, a3, a4, a5, a6, a7, a8, a9, a10, a11, a12, a13, a14, a15, a16, a17, a18, a19, a20, a21, a22)) : wpX_delete post (1, pc, di, co, ga, ls, a1, a2, a3, a4, a5, a6, a7, a8, a9, a10, a11, a12, a13, a14, a15, a16, a17, a18, a19, a20, a21, a22) r := by
  unfold wpX_delete
  by_cases e : r = 0
  · subst e
    rw [if_pos rfl] at h
    refine pc_row0 ha (br_t rfl ⟨pk_in 0 96 (by decide), nm_e (Exists.intro 2 (br_f (by decide) ⟨pk_in 0 96 (by decide), br_f ?_ (nm_e (br_t (by decide) (h _)))⟩))⟩)
    show ¬ upd a1 0 1 0 = 0
    rw [pk_us]
    decide
  · rw [if_neg e] at h
    refine pc_row1 ?_ (br_f (by decide) (h a1))
    rcases pk_ix r (n := 1) (by decide) with z | z | ⟨k, hk, z⟩
    · exact Or.inl z
    · exact Or.inr z
    · have hk0 : k = 0 := by omega
      subst hk0
      exact absurd z e
end
end
section
section
variable {post : Int32 → St0 → Prop} {mc ms kc ks : Nat} {x lo hi r own now x7 x8 x9 x10 x11 x12 x13 x14 x16 z0 z1 : Int32}
theorem pc_t268 (h11 : x11 = if r = 0 then 0 else -1000000003) (h : post 1 ()) : wL_lawOf_250 post mc ms r x11 (-1000000001) z0 z0 kc ks := by
  refine br_t rfl ?_
  by_cases e : r = 0
  · rw [if_pos e] at h11
    exact br_t e (br_t h11 h)
  · rw [if_neg e] at h11
    exact br_f e (br_t (h11.trans (by decide)) h)
/-- the tail behind an unknown column -/
theorem pc_tbad {c : Int32} (h0 : ¬ c = 0) (h1 : ¬ c = 1) (h11 : x11 = if r = 0 then 0 else -1000000003) (h : post 1 ()) : wL_lawOf_79 post mc ms x c lo hi r 0 (-1000000001) 1 (-1000000001) (-1000000001) x11 kc ks := by
  have t : wL_lawOf_118 post mc ms lo hi r 0 (-1000000001) 1 (-1000000001) (-1000000001) x11 0 7 kc ks :=
    br_t rfl (br_t rfl (br_t rfl (br_t rfl (br_t rfl (br_t rfl (br_t rfl (br_t rfl (br_t rfl (pc_t268 h11 h)))))))))
  exact br_f h0 (br_f h1 (br_c (fun _ => br_t rfl t) (fun _ => t)))
theorem pc_t224 (h10 : x10 = if x16 = 0 then 0 else now) (h11 : x11 = if r = 0 then 0 else -1000000003) (h : post 1 ()) : wL_lawOf_224 post mc ms r x10 x11 1 now (-1000000001) x16 z0 z0 kc ks := by
  refine br_t rfl (br_f (by decide) ?_)
  by_cases e : x16 = 0
  · rw [if_pos e] at h10
    subst h10
    exact br_t e (pc_t268 h11 h)
  · rw [if_neg e] at h10
    subst h10
    exact br_f e (pc_t268 h11 h)
theorem pc_t195 (h9 : x9 = if r = 0 then own else -1000000003) (h10 : x10 = if x16 = 0 then 0 else now) (h11 : x11 = if r = 0 then 0 else -1000000003) (h : post 1 ()) : wL_lawOf_195 post mc ms r x9 x10 x11 1 own now (-1000000001) x16 z0 z0 kc ks := by
  refine br_t rfl (br_f (by decide) ?_)
  by_cases e : r = 0
  · rw [if_pos e] at h9
    subst h9
    exact br_t e (pc_t224 h10 h11 h)
  · rw [if_neg e] at h9
    have h9' : x9 = -1000000001 - 2 := h9.trans (by decide)
    subst h9'
    exact br_f e (pc_t224 h10 h11 h)
theorem pc_t148 (h8 : x8 = pc_w own lo hi) (h9 : x9 = if r = 0 then own else -1000000003) (h10 : x10 = if x16 = 0 then 0 else now) (h11 : x11 = if r = 0 then 0 else -1000000003) (h : post 1 ()) : wL_lawOf_148 post mc ms lo hi r 0 1 x8 x9 x10 x11 1 own now (-1000000001) x16 kc ks := by
  refine br_t rfl (br_f (by decide) (br_t rfl (br_f (by decide) ?_)))
  unfold pc_w at h8
  by_cases g1 : own < lo
  · rw [if_pos g1] at h8
    subst h8
    exact br_t g1 (pc_t195 h9 h10 h11 h)
  · rw [if_neg g1] at h8
    by_cases g2 : hi < own
    · rw [if_pos g2] at h8
      subst h8
      exact br_f g1 (br_t g2 (pc_t195 h9 h10 h11 h))
    · rw [if_neg g2] at h8
      subst h8
      exact br_f g1 (br_f g2 (pc_t195 h9 h10 h11 h))
theorem pc_t120 (h8 : x8 = pc_w own lo hi) (h9 : x9 = if r = 0 then own else -1000000003) (h10 : x10 = if pc_w now lo hi = 0 then 0 else now) (h11 : x11 = if r = 0 then 0 else -1000000003) (h : post 1 ()) : wL_lawOf_120 post mc ms lo hi r 0 1 x8 x9 x10 x11 1 own now kc ks := by
  refine br_f (by decide) ?_
  unfold pc_w at h10
  by_cases g1 : now < lo
  · rw [if_pos g1] at h10
    exact br_t g1 (pc_t148 h8 h9 h10 h11 h)
  · rw [if_neg g1] at h10
    by_cases g2 : hi < now
    · rw [if_pos g2] at h10
      exact br_f g1 (br_t g2 (pc_t148 h8 h9 h10 h11 h))
    · rw [if_neg g2] at h10
      exact br_f g1 (br_f g2 (pc_t148 h8 h9 h10 h11 h))
theorem pc_t102 (h8 : x8 = pc_w own lo hi) (h9 : x9 = if r = 0 then own else -1000000003) (h10 : x10 = if pc_w (if r = 0 then 5 else own) lo hi = 0 then 0 else (if r = 0 then 5 else own)) (h11 : x11 = if r = 0 then 0 else -1000000003) (h : post 1 ()) : wL_lawOf_102 post mc ms lo hi r 0 1 x8 x9 x10 x11 1 own kc ks := by
  by_cases e : r = 0
  · rw [if_pos e] at h10
    exact br_t e (br_f (by decide) (pc_t120 h8 h9 h10 h11 h))
  · rw [if_neg e] at h10
    exact br_f e (pc_t120 h8 h9 h10 h11 h)
/-- what the column j of the one row holds -/
def pc_own (x : Int32) (j : Nat) : Int32 := if j = 0 then x else if j = 1 then -x else 7
theorem pc_t80 {j : Nat} (hj : j < 3) (h : ∀ o, o = pc_own x j → wL_lawOf_102 post mc ms lo hi r 0 1 x8 x9 x10 x11 1 o kc ks) : wL_lawOf_80 post mc ms x (nI j) lo hi r 0 1 x8 x9 x10 x11 1 kc ks := by
  rcases (by omega : j = 0 ∨ j = 1 ∨ j = 2) with e | e | e <;> subst e
  · exact br_t (by decide) (h x rfl)
  · exact br_f (by decide) (br_t (by decide) (h (-x) rfl))
  · exact br_f (by decide) (br_f (by decide) (h 7 rfl))
theorem pc_loose3 {f : Nat → Int32} {j : Nat} (hj : j < 3) : upd (upd (upd f 0 x) 1 (-x)) 2 7 j = pc_own x j := by
  rcases (by omega : j = 0 ∨ j = 1 ∨ j = 2) with e | e | e <;> subst e
  · rw [pk_un (by decide), pk_un (by decide), pk_us]
    rfl
  · rw [pk_un (by decide), pk_us]
    rfl
  · rw [pk_us]
    rfl
theorem pc_lawOf {c : Int32} (h : post 1 ()) : wpL_lawOf post 23 1511 () x c lo hi r := by
  refine And.intro (by decide) (And.intro (by decide) (Exists.intro 22 (Exists.intro 1483 (And.intro (by decide) (And.intro (by decide) ?_)))))
  refine pc_init (pc_append ?_)
  rcases pk_ix c (n := 3) (by decide) with hc | hc | ⟨j, hj, rfl⟩
  · have hc' : c < 0 ∨ ¬ c < 3 := Or.inl hc
    exact pc_cond_bad hc' (pc_count0 pk_us (pc_change_bad hc' (pc_sum_bad hc' (pc_delete pk_us (fun a => br_t hc (pc_tbad (by intro z; rw [z] at hc; exact absurd hc (by decide)) (by intro z; rw [z] at hc; exact absurd hc (by decide)) rfl h))))))
  · have k1 : ¬ c < 0 ∧ 2 < c ∧ ¬ c < 3 := by
      have t := Int32.le_iff_toInt_le.mp hc
      rw [nI_toInt (by decide)] at t
      refine ⟨fun z => ?_, Int32.lt_iff_toInt_lt.mpr ?_, fun z => ?_⟩
      · have z' := Int32.lt_iff_toInt_lt.mp z
        rw [show (0 : Int32).toInt = 0 by decide] at z'
        omega
      · rw [show (2 : Int32).toInt = 2 by decide]
        omega
      · have z' := Int32.lt_iff_toInt_lt.mp z
        rw [show (3 : Int32).toInt = 3 by decide] at z'
        omega
    have hc' : c < 0 ∨ ¬ c < 3 := Or.inr k1.2.2
    exact pc_cond_bad hc' (pc_count0 pk_us (pc_change_bad hc' (pc_sum_bad hc' (pc_delete pk_us (fun a => br_f k1.1 (br_t k1.2.1 (pc_tbad (by intro z; rw [z] at k1; exact absurd k1.2.1 (by decide)) (by intro z; rw [z] at k1; exact absurd k1.2.1 (by decide)) rfl h)))))))
  · have k0 : ¬ nI j < 0 := nI_pos (by omega)
    have k2 : ¬ 2 < nI j := nI_nlt (b := j) (a := 2) (by omega) (by decide)
    refine pc_cond hj (pc_count1 hj pk_us pk_us pk_us pk_us ?_)
    rw [pc_loose3 hj]
    by_cases e : r = 0
    · subst e
      refine pc_change0 hj pk_us ?_
      rw [pc_loose3 hj]
      refine pc_sum hj pk_us pk_us pk_us pk_us (fun g b c d => ?_)
      rw [pk_us]
      exact pc_delete pk_us (fun a => br_f k0 (br_f k2 (pc_t80 hj (fun o ho => by subst ho; exact pc_t102 rfl rfl rfl rfl h))))
    · have hr : r < 0 ∨ 1 ≤ r := by
        rcases pk_ix r (n := 1) (by decide) with z | z | ⟨k, hk, z⟩
        · exact Or.inl z
        · exact Or.inr z
        · have hk0 : k = 0 := by omega
          subst hk0
          exact absurd z e
      refine pc_change_none hj hr (pc_sum hj pk_us pk_us pk_us pk_us (fun g b c d => ?_))
      rw [pc_loose3 hj]
      exact pc_delete pk_us (fun a => br_f k0 (br_f k2 (pc_t80 hj (fun o ho => by
        subst ho
        exact pc_t102 rfl (if_neg e).symm (by rw [if_neg e]) rfl h))))
end
theorem pc_cell {post : Int32 → Prop} {L : Nat} {xs : Nat → Int32} {i : Nat} (hL : L ≤ 5) (hi : i < 5) (h : ∀ x, post x) : wpL_cellAt post L xs () (nI i) :=
  pk_le L i (fun _ => h 0) (fun z => ⟨pk_in i L z, h _⟩)
theorem i_vc (xs : Nat → Int32) (L : Nat) (hL : L ≤ 5) : wpL_law (fun r => r = 1) L xs :=
  pc_cell (i := 0) hL (by decide) (fun _ => pc_cell (i := 1) hL (by decide) (fun _ => pc_cell (i := 2) hL (by decide) (fun _ => pc_cell (i := 3) hL (by decide) (fun _ => pc_cell (i := 4) hL (by decide) (fun _ =>
    Exists.intro 23 (Exists.intro 1511 (And.intro (by decide) (And.intro (by decide) (pc_lawOf rfl)))))))))
end
