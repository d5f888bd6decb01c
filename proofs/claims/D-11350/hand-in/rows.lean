section
section
variable {cn rd gr : Int32} {a1 a2 a3 a4 a5 a6 a7 a8 a9 : Nat → Int32}
theorem ll_in0 : vp_in (0 : Int32) 4 := vp_in_iff.mpr (by decide)
/-! the packed parts of the one statement: arrays 0, 1, 2; shifts 0, 2, -3 -/
theorem ll_arr {post : Int32 → Prop} (p r : Int32) (h3 : a3 0 = 36) (hr : ((36 : Int32) >>> ((2 * p) &&& 31)) &&& 3 = r) (hp : post r) : wpX_arrayOf post (cn, rd, gr, a1, a2, a3, a4, a5, a6, a7, a8, a9) 0 p := by
  refine And.intro ll_in0 ?_
  rw [sb_cl0, h3, hr]
  exact hp
theorem ll_shf {post : Int32 → Prop} (p r : Int32) (h4 : a4 0 = 356) (hr : (((356 : Int32) >>> ((4 * p) &&& 31)) &&& 15) - 4 = r) (hp : post r) : wpX_shiftOf post (cn, rd, gr, a1, a2, a3, a4, a5, a6, a7, a8, a9) 0 p := by
  refine And.intro ll_in0 ?_
  rw [sb_cl0, h4, hr]
  exact hp
theorem ll_meetsA {post : Int32 → Prop} (p q r s d : Int32) (h3 : a3 0 = 36) (hr : ((36 : Int32) >>> ((2 * p) &&& 31)) &&& 3 = r) (hs : ((36 : Int32) >>> ((2 * q) &&& 31)) &&& 3 = s) (hn : ¬ r = s) (hp : post 0) : wpX_meets post (cn, rd, gr, a1, a2, a3, a4, a5, a6, a7, a8, a9) 0 p 0 q d := by
  unfold wpX_meets
  exact ll_arr p r h3 hr (ll_arr q s h3 hs (br_f hn hp))
theorem ll_meetsB {post : Int32 → Prop} (d : Int32) (h3 : a3 0 = 36) (h4 : a4 0 = 356) (hd : ¬ d = 0) (hp : post 0) : wpX_meets post (cn, rd, gr, a1, a2, a3, a4, a5, a6, a7, a8, a9) 0 0 0 0 d := by
  have hn : ¬ (0 : Int32) = 0 + d := fun e => hd (by rw [Int32.zero_add] at e; exact e.symm)
  unfold wpX_meets
  exact ll_arr 0 0 h3 (by decide) (ll_arr 0 0 h3 (by decide) (br_t rfl (ll_shf 0 0 h4 (by decide) (ll_shf 0 0 h4 (by decide) (br_f hn hp)))))
theorem ll_reads {post : Int32 → Prop} (p : Int32) (h0 : post 0) (h1 : post 1) : wpX_reads post (cn, rd, gr, a1, a2, a3, a4, a5, a6, a7, a8, a9) 0 p := by
  unfold wpX_reads
  exact br_c (fun _ => And.intro ll_in0 (br_c (fun _ => h0) (fun _ => h1))) (fun _ => And.intro ll_in0 (br_c (fun _ => h0) (fun _ => h1)))
theorem ll_fs {post J : Int32 → Prop} {x1 x2 x3 : Int32} (x y : Int32) (e : x + 1 = y) (h : J y) : wX_feeds_36 post J x1 x2 x3 x cn rd gr a1 a2 a3 a4 a5 a6 a7 a8 a9 := by
  unfold wX_feeds_36 wX_feeds_37
  exact br_t rfl (nm_r e h)
theorem ll_ss {post J : Int32 → Prop} {x1 x2 x3 : Int32} (x y : Int32) (e : x + 1 = y) (h : J y) : wX_spoils_36 post J x1 x2 x3 x cn rd gr a1 a2 a3 a4 a5 a6 a7 a8 a9 := by
  unfold wX_spoils_36 wX_spoils_37
  exact br_t rfl (nm_r e h)
theorem ll_feeds {post : Int32 → Prop} (d : Int32) (h3 : a3 0 = 36) (hp : post 0) : wpX_feeds post (cn, rd, gr, a1, a2, a3, a4, a5, a6, a7, a8, a9) 0 0 d := by
  have s3 : ∀ n, wX_feeds_3 post 0 0 d cn rd gr a1 a2 a3 a4 a5 a6 a7 a8 a9 (n + 1) 3 := fun n => br_t (by decide) hp
  have s2 : ∀ n, wX_feeds_3 post 0 0 d cn rd gr a1 a2 a3 a4 a5 a6 a7 a8 a9 (n + 1 + 1) 2 := fun n =>
    br_f (by decide) (ll_reads 2 (br_t rfl (ll_fs 2 3 (by decide) (s3 n))) (br_f (by decide) (ll_meetsA 0 2 0 2 d h3 (by decide) (by decide) (by decide) (br_t rfl (ll_fs 2 3 (by decide) (s3 n))))))
  have s1 : ∀ n, wX_feeds_3 post 0 0 d cn rd gr a1 a2 a3 a4 a5 a6 a7 a8 a9 (n + 1 + 1 + 1) 1 := fun n =>
    br_f (by decide) (ll_reads 1 (br_t rfl (ll_fs 1 2 (by decide) (s2 n))) (br_f (by decide) (ll_meetsA 0 1 0 1 d h3 (by decide) (by decide) (by decide) (br_t rfl (ll_fs 1 2 (by decide) (s2 n))))))
  unfold wpX_feeds
  exact ⟨0 + 1 + 1 + 1, s1 0⟩
theorem ll_spoils {post : Int32 → Prop} (d : Int32) (h3 : a3 0 = 36) (hp : post 0) : wpX_spoils post (cn, rd, gr, a1, a2, a3, a4, a5, a6, a7, a8, a9) 0 0 d := by
  have s3 : ∀ n, wX_spoils_3 post 0 0 d cn rd gr a1 a2 a3 a4 a5 a6 a7 a8 a9 (n + 1) 3 := fun n => br_t (by decide) hp
  have s2 : ∀ n, wX_spoils_3 post 0 0 d cn rd gr a1 a2 a3 a4 a5 a6 a7 a8 a9 (n + 1 + 1) 2 := fun n =>
    br_f (by decide) (ll_reads 2 (br_t rfl (ll_ss 2 3 (by decide) (s3 n))) (br_f (by decide) (ll_meetsA 2 0 2 0 d h3 (by decide) (by decide) (by decide) (br_t rfl (ll_ss 2 3 (by decide) (s3 n))))))
  have s1 : ∀ n, wX_spoils_3 post 0 0 d cn rd gr a1 a2 a3 a4 a5 a6 a7 a8 a9 (n + 1 + 1 + 1) 1 := fun n =>
    br_f (by decide) (ll_reads 1 (br_t rfl (ll_ss 1 2 (by decide) (s2 n))) (br_f (by decide) (ll_meetsA 1 0 1 0 d h3 (by decide) (by decide) (by decide) (br_t rfl (ll_ss 1 2 (by decide) (s2 n))))))
  unfold wpX_spoils
  exact ⟨0 + 1 + 1 + 1, s1 0⟩
theorem ll_prec {post : Int32 → Prop} (d : Int32) (h3 : a3 0 = 36) (h4 : a4 0 = 356) (hp : post 0) : wpX_precedes post (cn, rd, gr, a1, a2, a3, a4, a5, a6, a7, a8, a9) 0 0 d := by
  unfold wpX_precedes
  refine br_c (fun _ => br_f (by decide) hp) (fun hd => ?_)
  unfold wX_precedes_11
  exact ll_meetsB d h3 h4 hd (br_t rfl (ll_feeds d h3 (br_t rfl (ll_spoils d h3 (br_t rfl hp)))))
theorem ll_precAll {post : Int32 → Prop} (h3 : a3 0 = 36) (h4 : a4 0 = 356) (hp : post 0) : wpX_precedesAtAll post (cn, rd, gr, a1, a2, a3, a4, a5, a6, a7, a8, a9) 0 0 := by
  unfold wpX_precedesAtAll
  exact pk_loop (σ := Unit) (fun n i _ => wX_precedesAtAll_2 post 0 0 cn rd gr a1 a2 a3 a4 a5 a6 a7 a8 a9 n (nI i)) (fun _ _ => True) 9 0 () (by omega) trivial
    (fun n _ _ => pk_lt 8 9 (fun _ => hp) (fun z => absurd z (by omega)))
    (fun n i _ hi _ hw => pk_lt 8 i (fun z => absurd z (by omega)) (fun _ => ll_prec (nI i) h3 h4 (br_t rfl (nm_r (nI_1 i) (hw () trivial)))))
end
section
variable {rd gr : Int32} {a1 a2 a3 a4 a5 a6 a7 a8 a9 : Nat → Int32}
theorem ll_behind {post : St2 → Prop} (h3 : a3 0 = 36) (h4 : a4 0 = 356) (hp : ∀ b : Nat → Int32, b 0 = 1 → post (1, rd, gr, a1, a2, a3, a4, a5, b, a7, a8, a9)) : wpX_findBehind post (1, rd, gr, a1, a2, a3, a4, a5, a6, a7, a8, a9) := by
  have e1 : (1 : Int32) <<< ((0 : Int32) &&& 31) = 1 := by decide
  have t66 : ∀ n (b : Nat → Int32), b 0 = 1 → wX_findBehind_66 post 1 rd gr (n + 1) 1 a1 a2 a3 a4 a5 b a7 a8 a9 := fun n b hb => br_t (by decide) (hp b hb)
  have t76 : ∀ n m (b : Nat → Int32), b 0 = 1 → wX_findBehind_76 post (wX_findBehind_66 post 1 rd gr (n + 1)) 0 1 rd gr (m + 1) 1 a1 a2 a3 a4 a5 b a7 a8 a9 := fun n m b hb => br_t (by decide) (nm_r (by decide : (0 : Int32) + 1 = 1) (t66 n b hb))
  have u76 : ∀ n m (b : Nat → Int32), b 0 = 1 → wX_findBehind_76 post (wX_findBehind_66 post 1 rd gr (n + 1)) 0 1 rd gr (m + 1 + 1) 0 a1 a2 a3 a4 a5 b a7 a8 a9 := fun n m b hb =>
    br_f (by decide) (And.intro ll_in0 (br_t (by rw [sb_cl0, hb]; decide) (And.intro ll_in0 (And.intro ll_in0 (And.intro ll_in0 (fun c hc => nm_r (by decide : (0 : Int32) + 1 = 1) (t76 n m c (by rw [hc, sb_cl0, pk_us, hb]; decide))))))))
  have u66 : ∀ n (b : Nat → Int32), b 0 = 1 → wX_findBehind_66 post 1 rd gr (n + 1 + 1) 0 a1 a2 a3 a4 a5 b a7 a8 a9 := fun n b hb => br_f (by decide) ⟨0 + 1 + 1, u76 n 0 b hb⟩
  have v2 : ∀ n (b : Nat → Int32), b 0 = 1 → wX_findBehind_2 post 1 rd gr (n + 1) 1 a1 a2 a3 a4 a5 b a7 a8 a9 := fun n b hb => br_t (by decide) ⟨0 + 1 + 1, u66 0 b hb⟩
  have v21 : ∀ n m (b : Nat → Int32), b 0 = 1 → wX_findBehind_21 post (wX_findBehind_2 post 1 rd gr (n + 1)) 0 1 rd gr (m + 1) 1 a1 a2 a3 a4 a5 b a7 a8 a9 := fun n m b hb => br_t (by decide) (nm_r (by decide : (0 : Int32) + 1 = 1) (v2 n b hb))
  have w21 : ∀ n m (b : Nat → Int32), b 0 = 1 → wX_findBehind_21 post (wX_findBehind_2 post 1 rd gr (n + 1)) 0 1 rd gr (m + 1 + 1) 0 a1 a2 a3 a4 a5 b a7 a8 a9 := fun n m b hb =>
    br_f (by decide) (ll_precAll h3 h4 (br_t rfl (nm_r (by decide : (0 : Int32) + 1 = 1) (v21 n m b hb))))
  unfold wpX_findBehind
  refine ⟨0 + 1 + 1, ?_⟩
  exact br_f (by decide) (And.intro ll_in0 (fun b hb => ⟨0 + 1 + 1, w21 0 0 b (by rw [hb, sb_cl0, pk_us, e1])⟩))
theorem ll_circle {post : Int32 → Prop} (h6 : a6 0 = 1) (hp : post 1) : wpX_circleOf post (1, rd, gr, a1, a2, a3, a4, a5, a6, a7, a8, a9) 0 := by
  unfold wpX_circleOf
  refine ⟨0 + 1 + 1, ?_⟩
  refine br_f (by decide) (And.intro ll_in0 (br_t (by rw [sb_cl0, h6]; decide) (And.intro ll_in0 (br_t (by rw [sb_cl0, h6]; decide) (nm_r (by decide : (0 : Int32) ||| ((1 : Int32) <<< ((0 : Int32) &&& 31)) = 1) (nm_r (by decide : (0 : Int32) + 1 = 1) ?_))))))
  exact br_t (by decide) hp
theorem ll_free {post : Int32 → Prop} (hp : post 1) : wpX_free post (1, rd, gr, a1, a2, a3, a4, a5, a6, a7, a8, a9) 1 0 := by
  unfold wpX_free
  refine ⟨0 + 1 + 1, ?_⟩
  refine br_f (by decide) (br_f (by decide) ?_)
  unfold wX_free_25
  exact br_t rfl (nm_r (by decide : (0 : Int32) + 1 = 1) (br_t (by decide) hp))
theorem ll_next {post : Int32 → Prop} (h6 : a6 0 = 1) (hp : post 1) : wpX_nextGroup post (1, rd, gr, a1, a2, a3, a4, a5, a6, a7, a8, a9) 0 := by
  unfold wpX_nextGroup
  refine ⟨0 + 1, ?_⟩
  exact br_f (by decide) (br_t (by decide) (ll_circle h6 (ll_free (br_f (by decide) hp))))
theorem ll_one {post : Int32 → Prop} (hp : post 1) : wpX_oneStatement post (1, rd, gr, a1, a2, a3, a4, a5, a6, a7, a8, a9) 1 := by
  unfold wpX_oneStatement
  exact br_t (by decide) hp
theorem ll_low {post : Int32 → Prop} (hp : post 0) : wpX_lowest post () 1 := by
  unfold wpX_lowest
  refine ⟨0 + 1, ?_⟩
  exact br_f (by decide) (br_f (by decide) hp)
theorem ll_fits {post : Int32 → Prop} (h3 : a3 0 = 36) (hp : post 1) : wpX_fitsLanes post (1, rd, gr, a1, a2, a3, a4, a5, a6, a7, a8, a9) 0 := by
  unfold wpX_fitsLanes
  exact pk_loop (σ := Unit) (fun n i _ => wX_fitsLanes_2 post 0 1 rd gr a1 a2 a3 a4 a5 a6 a7 a8 a9 n (nI i)) (fun _ _ => True) 4 1 () (by omega) trivial
    (fun n _ _ => pk_le 4 4 (fun _ => hp) (fun z => absurd z (by omega)))
    (fun n i _ hi _ hw => pk_le 4 i (fun z => absurd z (by omega)) (fun _ => ll_feeds (nI i) h3 (br_t rfl (nm_r (nI_1 i) (hw () trivial)))))
theorem ll_plan {post : St2 → Prop} (h3 : a3 0 = 36) (h4 : a4 0 = 356) (hp : ∀ b6 b7 b8 : Nat → Int32, b7 0 = 1 → ¬ b8 0 = 0 → post (1, 1, 1, a1, a2, a3, a4, a5, b6, b7, b8, a9)) : wpX_plan post (1, 0, gr, a1, a2, a3, a4, a5, a6, a7, a8, a9) := by
  have e8 : ¬ vp_nar .boolean 1 = 0 := by decide
  have t26 : ∀ n (b6 b7 b8 : Nat → Int32), b7 0 = 1 → ¬ b8 0 = 0 → wX_plan_26 post 1 1 (n + 1) 1 1 1 a1 a2 a3 a4 a5 b6 b7 b8 a9 := fun n b6 b7 b8 h7 h8 => br_t (by decide) (hp b6 b7 b8 h7 h8)
  have t94 : ∀ n (b6 b7 : Nat → Int32), b7 0 = 1 → wX_plan_94 post (wX_plan_26 post 1 1 (n + 1)) 0 0 1 1 0 1 1 0 a1 a2 a3 a4 a5 b6 b7 a8 a9 := by
    intro n b6 b7 h7
    unfold wX_plan_94
    refine And.intro ll_in0 (fun b8 h8 => nm_r (by decide : (0 : Int32) + 1 = 1) (nm_r (by decide : (0 : Int32) ||| 1 = 1) (nm_r (by decide : (0 : Int32) + 1 = 1) (t26 n b6 b7 b8 h7 ?_))))
    rw [h8, sb_cl0, pk_us]
    exact e8
  unfold wpX_plan
  refine br_t rfl (ll_behind h3 h4 (fun b6 h6 => ⟨0 + 1 + 1, ?_⟩))
  exact br_f (by decide) (ll_next h6 (br_f (by decide) (And.intro ll_in0 (fun b7 h7 => ll_one (ll_low (br_f (by decide) (ll_fits h3 (br_f (by decide) (t94 0 b6 b7 (by rw [h7, sb_cl0, pk_us])))))))))) 
end
end
section
section
/-- what the one statement computes -/
def ll_v (o x y k : Int32) : Int32 := if o = 0 then x + y else if o = 1 then x - y else if o = 2 then x * y else if o = 3 then (if y ≤ x then y else x) else if o = 4 then x + k else if o = 5 then k else x * k
theorem ll_v0 (x y k : Int32) : ll_v 0 x y k = x + y := if_pos rfl
theorem ll_v1 (x y k : Int32) : ll_v 1 x y k = x - y := by
  unfold ll_v
  rw [if_neg (by decide), if_pos rfl]
theorem ll_v2 (x y k : Int32) : ll_v 2 x y k = x * y := by
  unfold ll_v
  rw [if_neg (by decide), if_neg (by decide), if_pos rfl]
theorem ll_v3 (x y k : Int32) : ll_v 3 x y k = if y ≤ x then y else x := by
  unfold ll_v
  rw [if_neg (by decide : ¬ (3 : Int32) = 0), if_neg (by decide : ¬ (3 : Int32) = 1), if_neg (by decide : ¬ (3 : Int32) = 2), if_pos (rfl : (3 : Int32) = 3)]
theorem ll_v4 (x y k : Int32) : ll_v 4 x y k = x + k := by
  unfold ll_v
  rw [if_neg (by decide : ¬ (4 : Int32) = 0), if_neg (by decide : ¬ (4 : Int32) = 1), if_neg (by decide : ¬ (4 : Int32) = 2), if_neg (by decide : ¬ (4 : Int32) = 3), if_pos (rfl : (4 : Int32) = 4)]
theorem ll_v5 (x y k : Int32) : ll_v 5 x y k = k := by
  unfold ll_v
  rw [if_neg (by decide : ¬ (5 : Int32) = 0), if_neg (by decide : ¬ (5 : Int32) = 1), if_neg (by decide : ¬ (5 : Int32) = 2), if_neg (by decide : ¬ (5 : Int32) = 3), if_neg (by decide : ¬ (5 : Int32) = 4), if_pos (rfl : (5 : Int32) = 5)]
theorem ll_v6 (x y k : Int32) : ll_v 6 x y k = x * k := by
  unfold ll_v
  rw [if_neg (by decide : ¬ (6 : Int32) = 0), if_neg (by decide : ¬ (6 : Int32) = 1), if_neg (by decide : ¬ (6 : Int32) = 2), if_neg (by decide : ¬ (6 : Int32) = 3), if_neg (by decide : ¬ (6 : Int32) = 4), if_neg (by decide : ¬ (6 : Int32) = 5)]
/-- the seven operations, one by one -/
theorem ll_seven {j : Nat} (hj : j < 7) : nI j = 0 ∨ nI j = 1 ∨ nI j = 2 ∨ nI j = 3 ∨ nI j = 4 ∨ nI j = 5 ∨ nI j = 6 := by
  match j, hj with
  | 0, _ => exact Or.inl rfl
  | 1, _ => exact Or.inr (Or.inl rfl)
  | 2, _ => exact Or.inr (Or.inr (Or.inl rfl))
  | 3, _ => exact Or.inr (Or.inr (Or.inr (Or.inl rfl)))
  | 4, _ => exact Or.inr (Or.inr (Or.inr (Or.inr (Or.inl rfl))))
  | 5, _ => exact Or.inr (Or.inr (Or.inr (Or.inr (Or.inr (Or.inl rfl)))))
  | 6, _ => exact Or.inr (Or.inr (Or.inr (Or.inr (Or.inr (Or.inr rfl)))))
/-! places: an array's number, a round's index, a shift -/
theorem ll_p0 (t : Nat) : (0 : Int32) * 32 + nI t + 0 = nI t := by
  rw [Int32.add_zero, Int32.zero_mul, Int32.zero_add]
theorem ll_p1 (t : Nat) : (1 : Int32) * 32 + nI t + 2 = nI (34 + t) := by
  rw [show (1 : Int32) * 32 = nI 32 from rfl, show (2 : Int32) = nI 2 from rfl, nI_add, nI_add]
  exact congrArg nI (by omega)
theorem ll_m3 (t : Nat) (ht : 3 ≤ t) : nI t + (-3) = nI (t - 3) := by
  obtain ⟨u, rfl⟩ : ∃ u, t = u + 3 := ⟨t - 3, by omega⟩
  rw [← nI_add, Int32.add_assoc, show nI 3 + (-3) = 0 from rfl, Int32.add_zero]
  exact congrArg nI (by omega)
theorem ll_p2 (t : Nat) (ht : 3 ≤ t) : (2 : Int32) * 32 + nI t + (-3) = nI (61 + t) := by
  rw [Int32.add_assoc, ll_m3 t ht, show (2 : Int32) * 32 = nI 64 from rfl, nI_add]
  exact congrArg nI (by omega)
end
section
variable {cn rd gr : Int32} {a1 a2 a3 a4 a5 a6 a7 a8 a9 : Nat → Int32}
theorem ll_src1 {post : Int32 → Prop} {t : Nat} (h3 : a3 0 = 36) (h4 : a4 0 = 356) (ht : t < 30) (hp : post (a1 (34 + t))) : wpX_source post (cn, rd, gr, a1, a2, a3, a4, a5, a6, a7, a8, a9) 0 1 (nI t) := by
  unfold wpX_source
  refine ll_arr 1 1 h3 (by decide) (ll_shf 1 2 h4 (by decide) ?_)
  rw [ll_p1]
  refine And.intro (vp_in_nI (by omega) (by omega)) ?_
  rw [nI_clamp (by omega)]
  exact hp
theorem ll_src2 {post : Int32 → Prop} {t : Nat} (h3 : a3 0 = 36) (h4 : a4 0 = 356) (h : 3 ≤ t) (ht : t < 30) (hp : post (a1 (61 + t))) : wpX_source post (cn, rd, gr, a1, a2, a3, a4, a5, a6, a7, a8, a9) 0 2 (nI t) := by
  unfold wpX_source
  refine ll_arr 2 2 h3 (by decide) (ll_shf 2 (-3) h4 (by decide) ?_)
  rw [ll_p2 t h]
  refine And.intro (vp_in_nI (by omega) (by omega)) ?_
  rw [nI_clamp (by omega)]
  exact hp
theorem ll_result {post : Int32 → Prop} {t j : Nat} (h2 : a2 0 = nI j) (hj : j < 7) (h3 : a3 0 = 36) (h4 : a4 0 = 356) (h : 3 ≤ t) (ht : t < 30) (hp : post (ll_v (nI j) (a1 (34 + t)) (a1 (61 + t)) (a5 0))) : wpX_result post (cn, rd, gr, a1, a2, a3, a4, a5, a6, a7, a8, a9) 0 (nI t) := by
  unfold wpX_result
  refine ll_src1 h3 h4 ht (ll_src2 h3 h4 h ht (And.intro ll_in0 (nm_r (by rw [sb_cl0, h2] : a2 (0 : Int32).toNatClampNeg = nI j) ?_)))
  rw [sb_cl0]
  rcases ll_seven hj with e | e | e | e | e | e | e
  · rw [e] at hp ⊢
    rw [ll_v0] at hp
    exact br_f (by decide) (br_f (by decide) (br_t rfl hp))
  · rw [e] at hp ⊢
    rw [ll_v1] at hp
    exact br_f (by decide) (br_f (by decide) (br_f (by decide) (br_t rfl hp)))
  · rw [e] at hp ⊢
    rw [ll_v2] at hp
    exact br_f (by decide) (br_f (by decide) (br_f (by decide) (br_f (by decide) (br_t rfl hp))))
  · rw [e] at hp ⊢
    rw [ll_v3] at hp
    refine br_f (by decide) (br_f (by decide) (br_f (by decide) (br_f (by decide) (br_f (by decide) (br_t rfl (br_c (fun z => ?_) (fun z => ?_)))))))
    · rw [if_pos z] at hp
      exact hp
    · rw [if_neg z] at hp
      exact hp
  · rw [e] at hp ⊢
    rw [ll_v4] at hp
    exact br_f (by decide) (br_f (by decide) (br_f (by decide) (br_f (by decide) (br_f (by decide) (br_f (by decide) (br_t rfl (And.intro ll_in0 hp)))))))
  · rw [e] at hp ⊢
    rw [ll_v5] at hp
    exact br_f (by decide) (br_f (by decide) (br_f (by decide) (br_f (by decide) (br_f (by decide) (br_f (by decide) (br_f (by decide) (br_t rfl (And.intro ll_in0 hp))))))))
  · rw [e] at hp ⊢
    rw [ll_v6] at hp
    exact br_f (by decide) (br_t (by decide) (And.intro ll_in0 hp))
theorem ll_store {post : St2 → Prop} {t : Nat} {v : Int32} (h3 : a3 0 = 36) (h4 : a4 0 = 356) (ht : t < 32) (hp : post (cn, rd, gr, upd a1 t v, a2, a3, a4, a5, a6, a7, a8, a9)) : wpX_store post (cn, rd, gr, a1, a2, a3, a4, a5, a6, a7, a8, a9) 0 (nI t) v := by
  unfold wpX_store
  refine ll_arr 0 0 h3 (by decide) (ll_shf 0 0 h4 (by decide) ?_)
  rw [ll_p0]
  refine And.intro (vp_in_nI (by omega) (by omega)) ?_
  rw [nI_clamp (by omega)]
  exact nm_e hp
theorem ll_lanes {post : St2 → Prop} {t j : Nat} (h2 : a2 0 = nI j) (hj : j < 7) (h3 : a3 0 = 36) (h4 : a4 0 = 356) (h : 3 ≤ t) (ht : t < 30) (hp : post (cn, rd, gr, upd a1 t (ll_v (nI j) (a1 (34 + t)) (a1 (61 + t)) (a5 0)), a2, a3, a4, a5, a6, a7, a8, a9)) : wpX_runInLanes post (cn, rd, gr, a1, a2, a3, a4, a5, a6, a7, a8, a9) 0 (nI t) (nI t) := by
  have e3 : nI t + 4 - 1 = nI (t + 3) := by
    rw [show (4 : Int32) = nI 4 from rfl, nI_add, show t + 4 = t + 3 + 1 by omega, nI_pred]
  unfold wpX_runInLanes
  refine ⟨0 + 1, ?_⟩
  refine br_t ?_ ⟨0 + 1 + 1, ?_⟩
  · rw [e3]
    exact nI_lt (by omega) (by omega)
  · refine br_f (nI_nlt (Nat.le_refl t) (by omega)) (ll_result h2 hj h3 h4 h ht (ll_store h3 h4 (by omega) (nm_r (nI_1 t) ?_)))
    exact br_t (nI_lt (by omega) (by omega)) hp
theorem ll_outside {post : Int32 → Prop} {t : Nat} (h4 : a4 0 = 356) (h : 3 ≤ t) (ht : t < 30) (hp : post 0) : wpX_outside post (cn, rd, gr, a1, a2, a3, a4, a5, a6, a7, a8, a9) 0 (nI t) := by
  have s3 : wX_outside_2 post 0 (nI t) cn rd gr a1 a2 a3 a4 a5 a6 a7 a8 a9 (0 + 1) 3 := br_t (by decide) hp
  have s2 : wX_outside_2 post 0 (nI t) cn rd gr a1 a2 a3 a4 a5 a6 a7 a8 a9 (0 + 1 + 1) 2 :=
    br_f (by decide) (ll_shf 2 (-3) h4 (by decide) (nm_r (ll_m3 t h) (br_f (nI_pos (by omega)) (br_t (nI_lt (b := 32) (by omega) (by omega)) (nm_r (by decide : (2 : Int32) + 1 = 3) s3)))))
  have s1 : wX_outside_2 post 0 (nI t) cn rd gr a1 a2 a3 a4 a5 a6 a7 a8 a9 (0 + 1 + 1 + 1) 1 :=
    br_f (by decide) (ll_shf 1 2 h4 (by decide) (nm_r (nI_add t 2) (br_f (nI_pos (by omega)) (br_t (nI_lt (b := 32) (by omega) (by omega)) (nm_r (by decide : (1 : Int32) + 1 = 2) s2)))))
  have s0 : wX_outside_2 post 0 (nI t) cn rd gr a1 a2 a3 a4 a5 a6 a7 a8 a9 (0 + 1 + 1 + 1 + 1) 0 :=
    br_f (by decide) (ll_shf 0 0 h4 (by decide) (nm_r (Int32.add_zero (nI t)) (br_f (nI_pos (by omega)) (br_t (nI_lt (b := 32) (by omega) (by omega)) (nm_r (by decide : (0 : Int32) + 1 = 1) s1)))))
  unfold wpX_outside
  exact ⟨_, s0⟩
theorem ll_run {post : Int32 → St2 → Prop} {t j : Nat} (h2 : a2 0 = nI j) (hj : j < 7) (h3 : a3 0 = 36) (h4 : a4 0 = 356) (h : 3 ≤ t) (ht : t < 30)
    (hp : ∀ b6 b7 b8 : Nat → Int32, post 1 (1, 1, 1, upd a1 t (ll_v (nI j) (a1 (34 + t)) (a1 (61 + t)) (a5 0)), a2, a3, a4, a5, b6, b7, b8, a9)) : wpX_run post (1, 0, gr, a1, a2, a3, a4, a5, a6, a7, a8, a9) (nI t) (nI t) := by
  have e1 : (1 : Int32) * (nI t - nI t + 1) = 1 := by
    rw [Int32.sub_self]
    decide
  unfold wpX_run
  refine br_f (nI_pos (by omega)) (br_f (nI_ge (b := 32) (by omega) (by omega)) (br_f (nI_pos (by omega)) (br_t (nI_lt (b := 32) (by omega) (by omega)) ⟨0 + 1 + 1, ?_⟩)))
  refine br_f (by decide) (ll_outside h4 h ht (br_t rfl (ll_outside h4 h ht (br_t rfl (nm_r (by decide : (0 : Int32) + 1 = 1) ?_)))))
  refine br_t (by decide) (br_t (nI_le (Nat.le_refl t) (by omega)) (ll_plan h3 h4 (fun b6 b7 b8 h7 h8 => ⟨0 + 1 + 1, ?_⟩)))
  refine br_f (by decide) (And.intro ll_in0 ?_)
  rw [sb_cl0, h7]
  refine ll_low (And.intro ll_in0 (br_f h8 (ll_lanes h2 hj h3 h4 h ht (nm_r (by decide : (0 : Int32) + 1 = 1) ?_))))
  refine br_t (by decide) ?_
  rw [e1]
  exact hp b6 b7 b8
end
end
section
section
variable {cn rd gr : Int32} {a1 a2 a3 a4 a5 a6 a7 a8 a9 : Nat → Int32}
theorem ll_badA {post : Int32 → Prop} {k : Nat} (hk : k < 3) (hp : post 0) : wpX_badArray post () (nI k) := by
  unfold wpX_badArray
  exact br_f (nI_pos (by omega)) (br_t (nI_le (b := 2) (by omega) (by omega)) hp)
theorem ll_pl (k t : Nat) : nI k * 32 + nI t = nI (32 * k + t) := by
  rw [show (32 : Int32) = nI 32 from rfl, pk_mul, nI_add, Nat.mul_comm]
theorem ll_set {post : Int32 → St2 → Prop} {k t : Nat} {v : Int32} (hk : k < 3) (ht : t < 32) (hp : ∀ r, post r (cn, rd, gr, upd a1 (32 * k + t) v, a2, a3, a4, a5, a6, a7, a8, a9)) : wpX_set post (cn, rd, gr, a1, a2, a3, a4, a5, a6, a7, a8, a9) (nI k) (nI t) v := by
  unfold wpX_set
  refine ll_badA hk (br_t rfl (br_f (nI_pos (by omega)) (br_t (nI_lt (b := 32) (by omega) (by omega)) ?_)))
  rw [ll_pl, nI_clamp (by omega)]
  exact And.intro (vp_in_nI (by omega) (by omega)) (fun r _ => And.intro (vp_in_nI (by omega) (by omega)) (nm_e (hp r)))
theorem ll_get {post : Int32 → Prop} {k t : Nat} (hk : k < 3) (ht : t < 32) (hp : post (a1 (32 * k + t))) : wpX_get post (cn, rd, gr, a1, a2, a3, a4, a5, a6, a7, a8, a9) (nI k) (nI t) := by
  unfold wpX_get
  refine ll_badA hk (br_t rfl (br_f (nI_pos (by omega)) (br_t (nI_lt (b := 32) (by omega) (by omega)) ?_)))
  rw [ll_pl, nI_clamp (by omega)]
  exact And.intro (vp_in_nI (by omega) (by omega)) hp
theorem ll_setE {post : Int32 → St2 → Prop} {k t : Nat} {c v : Int32} (hc : c = nI t) (hk : k < 3) (ht : t < 32) (hp : ∀ r, post r (cn, rd, gr, upd a1 (32 * k + t) v, a2, a3, a4, a5, a6, a7, a8, a9)) : wpX_set post (cn, rd, gr, a1, a2, a3, a4, a5, a6, a7, a8, a9) (nI k) c v := hc ▸ ll_set hk ht hp
theorem ll_getE {post : Int32 → Prop} {k t : Nat} {c : Int32} (hc : c = nI t) (hk : k < 3) (ht : t < 32) (hp : post (a1 (32 * k + t))) : wpX_get post (cn, rd, gr, a1, a2, a3, a4, a5, a6, a7, a8, a9) (nI k) c := hc ▸ ll_get hk ht hp
theorem ll_z (i : Nat) : (0 : Int32) * 32 + nI i = nI i := by
  rw [Int32.zero_mul, Int32.zero_add]
theorem ll_w (i : Nat) : (1 : Int32) * 32 + nI i = nI (32 + i) := nI_add 32 i
/-- array 0 holds v in one cell alone: its sum is v -/
theorem ll_sum {post : Int32 → Prop} {t : Nat} {v : Int32} (ht : t < 32) (hv : a1 t = v) (h0 : ∀ i, i < 32 → i ≠ t → a1 i = 0) (hp : post v) : wpX_sum post (cn, rd, gr, a1, a2, a3, a4, a5, a6, a7, a8, a9) 0 := by
  unfold wpX_sum
  refine ll_badA (k := 0) (by omega) (br_t rfl ?_)
  refine pk_loop (fun n i s => wX_sum_13 post 0 cn rd gr a1 a2 a3 a4 a5 a6 a7 a8 a9 n s (nI i)) (fun i s => s = if t < i then v else 0) 32 0 0 (by omega) (if_neg (by omega)).symm ?_ ?_
  · intro n s hs
    rw [if_pos ht] at hs
    exact pk_le 32 32 (fun _ => hs ▸ hp) (fun z => absurd z (by omega))
  · intro n i s hi hs hw
    refine pk_le 32 i (fun z => absurd z (by omega)) (fun _ => ?_)
    rw [ll_z, nI_clamp (by omega)]
    refine And.intro (vp_in_nI (by omega) (by omega)) (nm_e (nm_r (nI_1 i) (hw _ ?_)))
    rw [hs]
    by_cases e : i = t
    · rw [e, hv, if_neg (by omega), if_pos (by omega), Int32.zero_add]
    · rw [h0 i hi e, Int32.add_zero]
      by_cases g : t < i
      · rw [if_pos g, if_pos (by omega)]
      · rw [if_neg g, if_neg (by omega)]
/-- 1 where an int isn't 0 -/
def ll_b (x : Int32) : Int32 := if x = 0 then 0 else 1
/-- how many cells differ in the first i: v's cell at t, x's cell at t + 2 -/
def ll_d (t : Nat) (v x : Int32) (i : Nat) : Int32 := if i ≤ t then 0 else if i ≤ t + 2 then ll_b v else ll_b v + ll_b x
theorem ll_differ {post : Int32 → Prop} {t : Nat} {v x : Int32} (ht : t < 30) (hv : a1 t = v) (hx : a1 (34 + t) = x) (h0 : ∀ i, i < 64 → i ≠ t → i ≠ 34 + t → a1 i = 0) (hp : post (ll_b v + ll_b x)) : wpX_differ post (cn, rd, gr, a1, a2, a3, a4, a5, a6, a7, a8, a9) 0 1 := by
  unfold wpX_differ
  refine ll_badA (k := 0) (by omega) (br_t rfl (ll_badA (k := 1) (by omega) (br_t rfl ?_)))
  refine pk_loop (fun n i s => wX_differ_21 post 0 1 cn rd gr a1 a2 a3 a4 a5 a6 a7 a8 a9 n s (nI i)) (fun i s => s = ll_d t v x i) 32 0 0 (by omega) (if_pos (by omega)).symm ?_ ?_
  · intro n s hs
    have e : ll_d t v x 32 = ll_b v + ll_b x := by
      unfold ll_d
      rw [if_neg (by omega), if_neg (by omega)]
    rw [e] at hs
    exact pk_le 32 32 (fun _ => hs ▸ hp) (fun z => absurd z (by omega))
  · intro n i s hi hs hw
    refine pk_le 32 i (fun z => absurd z (by omega)) (fun _ => ?_)
    rw [ll_z, ll_w, nI_clamp (show i < 2 ^ 31 by omega), nI_clamp (show 32 + i < 2 ^ 31 by omega)]
    refine And.intro (vp_in_nI (by omega) (by omega)) (And.intro (vp_in_nI (by omega) (by omega)) (br_c (fun z => nm_r (nI_1 i) (hw s ?_)) (fun z => nm_e (nm_r (nI_1 i) (hw _ ?_)))))
    · rw [hs]
      by_cases e : i = t
      · have k0 : v = 0 := by
          rw [e, hv, h0 (32 + t) (by omega) (by omega) (by omega)] at z
          exact z
        unfold ll_d ll_b
        rw [if_pos (by omega), if_neg (by omega), if_pos (by omega), if_pos k0]
      · by_cases g : i = t + 2
        · have k0 : x = 0 := by
            rw [h0 i (by omega) e (by omega), show 32 + i = 34 + t by omega, hx] at z
            exact z.symm
          unfold ll_d
          rw [if_neg (by omega), if_pos (by omega), if_neg (by omega), if_neg (by omega), show ll_b x = 0 from if_pos k0, Int32.add_zero]
        · unfold ll_d
          by_cases g1 : i ≤ t
          · rw [if_pos g1, if_pos (by omega)]
          · by_cases g2 : i ≤ t + 2
            · rw [if_neg g1, if_pos g2, if_neg (by omega), if_pos (by omega)]
            · rw [if_neg g1, if_neg g2, if_neg (by omega), if_neg (by omega)]
    · rw [hs]
      by_cases e : i = t
      · have k0 : ¬ v = 0 := by
          rw [e, hv, h0 (32 + t) (by omega) (by omega) (by omega)] at z
          exact z
        unfold ll_d
        rw [if_pos (by omega), if_neg (by omega), if_pos (by omega), show ll_b v = 1 from if_neg k0]
        decide
      · by_cases g : i = t + 2
        · have k0 : ¬ x = 0 := by
            rw [h0 i (by omega) e (by omega), show 32 + i = 34 + t by omega, hx] at z
            exact fun q => z q.symm
          unfold ll_d
          rw [if_neg (by omega), if_pos (by omega), if_neg (by omega), if_neg (by omega), show ll_b x = 1 from if_neg k0]
        · exact absurd (by rw [h0 i (by omega) e (by omega), h0 (32 + i) (by omega) (by omega) (by omega)]) z
/-- the statement is taken: it is the first -/
theorem ll_stmt {post : Int32 → St2 → Prop} {j : Nat} {k : Int32} (hj : j < 7) (hp : ∀ r, post r (1, 0, gr, a1, upd a2 0 (nI j), upd a3 0 36, upd a4 0 356, upd a5 0 k, a6, a7, a8, a9)) : wpX_statement post (0, rd, gr, a1, a2, a3, a4, a5, a6, a7, a8, a9) (nI j) 36 356 k := by
  have bA : ∀ {Q : Int32 → Prop} (y : Int32) (m : Nat), m < 3 → y = nI m → Q 0 → wpX_badArray Q () y := fun y m hm e q => e ▸ ll_badA hm q
  have bS : ∀ {Q : Int32 → Prop} (y : Int32), ¬ y < (-4) → y ≤ 4 → Q 0 → wpX_badShift Q () y := fun y e1 e2 q => by
    unfold wpX_badShift
    exact br_f e1 (br_t e2 q)
  have t3 : wX_statement_34 post (nI j) 36 356 k 0 rd gr a1 a2 a3 a4 a5 a6 a7 a8 a9 (0 + 1) 3 := by
    refine br_t (by decide) (br_f (nI_pos (by omega)) (br_t (nI_le (b := 6) (by omega) (by omega)) (br_t (by decide) ?_)))
    rw [sb_cl0]
    exact And.intro ll_in0 (nm_e (And.intro ll_in0 (nm_e (And.intro ll_in0 (nm_e (And.intro ll_in0 (nm_e (nm_r (by decide : (0 : Int32) + 1 = 1) (hp _)))))))))
  have t2 : wX_statement_34 post (nI j) 36 356 k 0 rd gr a1 a2 a3 a4 a5 a6 a7 a8 a9 (0 + 1 + 1) 2 := br_f (by decide) (bS _ (by decide) (by decide) (br_t rfl (nm_r (by decide : (2 : Int32) + 1 = 3) t3)))
  have t1 : wX_statement_34 post (nI j) 36 356 k 0 rd gr a1 a2 a3 a4 a5 a6 a7 a8 a9 (0 + 1 + 1 + 1) 1 := br_f (by decide) (bS _ (by decide) (by decide) (br_t rfl (nm_r (by decide : (1 : Int32) + 1 = 2) t2)))
  have t0 : wX_statement_34 post (nI j) 36 356 k 0 rd gr a1 a2 a3 a4 a5 a6 a7 a8 a9 (0 + 1 + 1 + 1 + 1) 0 := br_f (by decide) (bS _ (by decide) (by decide) (br_t rfl (nm_r (by decide : (0 : Int32) + 1 = 1) t1)))
  have u3 : wX_statement_3 post (nI j) 36 356 k 0 rd gr a1 a2 a3 a4 a5 a6 a7 a8 a9 (0 + 1) 3 := br_t (by decide) ⟨_, t0⟩
  have u2 : wX_statement_3 post (nI j) 36 356 k 0 rd gr a1 a2 a3 a4 a5 a6 a7 a8 a9 (0 + 1 + 1) 2 := br_f (by decide) (bA _ 2 (by omega) (by decide) (br_t rfl (nm_r (by decide : (2 : Int32) + 1 = 3) u3)))
  have u1 : wX_statement_3 post (nI j) 36 356 k 0 rd gr a1 a2 a3 a4 a5 a6 a7 a8 a9 (0 + 1 + 1 + 1) 1 := br_f (by decide) (bA _ 1 (by omega) (by decide) (br_t rfl (nm_r (by decide : (1 : Int32) + 1 = 2) u2)))
  have u0 : wX_statement_3 post (nI j) 36 356 k 0 rd gr a1 a2 a3 a4 a5 a6 a7 a8 a9 (0 + 1 + 1 + 1 + 1) 0 := br_f (by decide) (bA _ 0 (by omega) (by decide) (br_t rfl (nm_r (by decide : (0 : Int32) + 1 = 1) u1)))
  unfold wpX_statement
  exact ⟨_, u0⟩
end
end
section
section
variable {rd gr : Int32} {a1 a2 a3 a4 a5 a6 a7 a8 a9 : Nat → Int32}
theorem ll_231 {post : Int32 → St0 → Prop} {mc ms kc ks : Nat} {z0 z1 r : Int32} (hr : r = z1 + z0) (hp : post 1 ()) : wL_lawOf_231 post mc ms z0 z1 r kc ks 1 rd gr a1 a2 a3 a4 a5 a6 a7 a8 a9 := by
  unfold wL_lawOf_231
  refine br_t hr ?_
  unfold wpX_size
  exact br_t rfl hp
theorem ll_221 {post : Int32 → St0 → Prop} {mc ms kc ks : Nat} {v z1 r : Int32} (hr : r = ll_b v + z1) (hp : post 1 ()) : wL_lawOf_221 post mc ms v z1 r kc ks 1 rd gr a1 a2 a3 a4 a5 a6 a7 a8 a9 := by
  unfold wL_lawOf_221
  refine br_c (fun g => ll_231 ?_ hp) (fun g => ll_231 ?_ hp)
  · rw [hr, Int32.add_comm, show ll_b v = 0 from if_pos g]
  · rw [hr, Int32.add_comm, show ll_b v = 1 from if_neg g]
/-- the law behind the three calls that make the state -/
theorem ll_150 {post : Int32 → St0 → Prop} {mc ms kc ks t j : Nat} {x y k : Int32} (z : Int32) (hz : z = ll_v (nI j) x y k) (h2 : a2 0 = nI j) (hj : j < 7) (h3 : a3 0 = 36) (h4 : a4 0 = 356) (h5 : a5 0 = k) (h : 4 ≤ t) (ht : t < 28)
    (hx : a1 (34 + t) = x) (hy : a1 (61 + t) = y) (h0 : ∀ i, i < 64 → i ≠ 34 + t → a1 i = 0) (hp : post 1 ()) : wL_lawOf_150 post mc ms x (nI t) z kc ks 1 0 gr a1 a2 a3 a4 a5 a6 a7 a8 a9 := by
  unfold wL_lawOf_150
  refine ll_run h2 hj h3 h4 (by omega) (by omega) (fun b6 b7 b8 => ?_)
  rw [hx, hy, h5, ← hz]
  have A0 : upd a1 t z t = z := pk_us
  have A1 : upd a1 t z (34 + t) = x := by
    rw [pk_un (by omega), hx]
  have A2 : ∀ i, i < 64 → i ≠ t → i ≠ 34 + t → upd a1 t z i = 0 := fun i hi e g => by
    rw [pk_un e]
    exact h0 i hi g
  obtain ⟨c, hc⟩ : ∃ c, c = upd a1 t z := ⟨_, rfl⟩
  rw [← hc] at A0 A1 A2
  rw [← hc]
  refine br_t rfl ?_
  refine ll_getE (k := 0) (t := t) rfl (by omega) (by omega) (br_t (by rw [Nat.mul_zero, Nat.zero_add]; exact A0) ?_)
  refine ll_sum (by omega) A0 (fun i hi e => A2 i (by omega) e (by omega)) (br_t rfl ?_)
  refine ll_getE (k := 1) (t := t + 2) (nI_add t 2) (by omega) (by omega) (br_t (by rw [show 32 * 1 + (t + 2) = 34 + t by omega]; exact A1) ?_)
  refine ll_differ (by omega) A0 A1 A2 ?_
  refine br_c (fun g => ll_221 ?_ hp) (fun g => ll_221 ?_ hp)
  · rw [show ll_b x = 0 from if_pos g]
  · rw [show ll_b x = 1 from if_neg g]
end
section
theorem ll_lawOf {post : Int32 → St0 → Prop} {p0 p1 p2 p3 p4 : Int32} (hp : post 1 ()) : wpL_lawOf post 90 1424 () p0 p1 p2 p3 p4 := by
  obtain ⟨m, hm, em⟩ := pk_andE p0 (m := 2147483647) 31 (by decide)
  obtain ⟨q, hq, eq⟩ := pk_andE p1 (m := 2147483647) 31 (by decide)
  have e6 : (p0 &&& 2147483647) - (p0 &&& 2147483647) / 7 * 7 = nI (m % 7) := by
    rw [em]
    exact pk_rem (d := 7) hm (by omega) (by omega)
  have e7 : 4 + ((p1 &&& 2147483647) - (p1 &&& 2147483647) / 24 * 24) = nI (4 + q % 24) := by
    have e : (p1 &&& 2147483647) - (p1 &&& 2147483647) / 24 * 24 = nI (q % 24) := by
      rw [eq]
      exact pk_rem (d := 24) hq (by omega) (by omega)
    rw [e]
    exact nI_add 4 (q % 24)
  have hj : m % 7 < 7 := Nat.mod_lt _ (by omega)
  have ht : 4 ≤ 4 + q % 24 ∧ 4 + q % 24 < 28 := ⟨by omega, by omega⟩
  generalize m % 7 = j at e6 hj
  generalize 4 + q % 24 = t at e7 ht
  obtain ⟨t1, t2⟩ := ht
  have K : ∀ z, z = ll_v (nI j) p2 p3 p4 → wL_lawOf_150 post 90 1424 p2 (nI t) z (1 + 89) (12 + 1412) 1 0 0 (upd (upd (fun _ => 0) (32 * 1 + (t + 2)) p2) (32 * 2 + (t - 3)) p3) (upd (fun _ => 0) 0 (nI j)) (upd (fun _ => 0) 0 36) (upd (fun _ => 0) 0 356) (upd (fun _ => 0) 0 p4) (fun _ => 0) (fun _ => 0) (fun _ => 0) (fun _ => 0) := by
    intro z hz
    refine ll_150 z hz pk_us hj pk_us pk_us pk_us t1 t2 ?_ ?_ (fun i hi e => ?_) hp
    · rw [pk_un (by omega), show 32 * 1 + (t + 2) = 34 + t by omega, pk_us]
    · rw [show 32 * 2 + (t - 3) = 61 + t by omega, pk_us]
    · rw [pk_un (by omega), pk_un (by omega)]
  unfold wpL_lawOf
  refine And.intro (by omega) (And.intro (by omega) ⟨89, 1412, by omega, by omega, ?_⟩)
  unfold wpX_init
  refine And.intro (by omega) (And.intro (by omega) (And.intro (by omega) (And.intro (by omega) (And.intro (by omega) (And.intro (by omega) ?_)))))
  refine And.intro (by omega) (And.intro (by omega) (And.intro (by omega) (And.intro (by omega) (And.intro (by omega) (And.intro (by omega) ?_)))))
  refine And.intro (by omega) (And.intro (by omega) (And.intro (by omega) (And.intro (by omega) (And.intro (by omega) (And.intro (by omega) ?_)))))
  refine And.intro (by decide) (nm_r e6 (And.intro (by decide) (nm_r e7 ?_)))
  refine ll_setE (k := 1) (t := t + 2) (nI_add t 2) (by omega) (by omega) (fun _ => ?_)
  refine ll_setE (k := 2) (t := t - 3) (pk_sub (b := 3) (by omega)) (by omega) (by omega) (fun _ => ?_)
  refine ll_stmt hj (fun _ => ?_)
  refine br_c (fun e => K _ ?_) (fun e0 => br_c (fun e => K _ ?_) (fun e1 => br_c (fun e => K _ ?_) (fun e2 => br_c (fun e => br_c (fun g => K _ ?_) (fun g => K _ ?_)) (fun e3 => br_c (fun e => K _ ?_) (fun e4 => br_c (fun e => K _ ?_) (fun e5 => K _ ?_))))))
  · unfold ll_v
    rw [if_pos e]
  · unfold ll_v
    rw [if_neg e0, if_pos e]
  · unfold ll_v
    rw [if_neg e0, if_neg e1, if_pos e]
  · unfold ll_v
    rw [if_neg e0, if_neg e1, if_neg e2, if_pos e, if_pos g]
  · unfold ll_v
    rw [if_neg e0, if_neg e1, if_neg e2, if_pos e, if_neg g]
  · unfold ll_v
    rw [if_neg e0, if_neg e1, if_neg e2, if_neg e3, if_pos e]
  · unfold ll_v
    rw [if_neg e0, if_neg e1, if_neg e2, if_neg e3, if_neg e4, if_pos e]
  · unfold ll_v
    rw [if_neg e0, if_neg e1, if_neg e2, if_neg e3, if_neg e4, if_neg e5]
theorem ll_cell {post : Int32 → Prop} {L : Nat} {xs : Nat → Int32} {j : Nat} (hL : L ≤ 5) (hj : j < 5) (hp : ∀ r, post r) : wpL_cellAt post L xs () (nI j) := by
  unfold wpL_cellAt
  exact pk_le L j (fun _ => hp 0) (fun z => And.intro (vp_in_nI z (by omega)) (hp _))
end
end
section
theorem i_vc (xs : Nat → Int32) (L : Nat) (hL : L ≤ 5) : wpL_law (fun r => r = 1) L xs := by
  unfold wpL_law
  exact ll_cell (j := 0) hL (by omega) (fun r1 => ll_cell (j := 1) hL (by omega) (fun r2 => ll_cell (j := 2) hL (by omega) (fun r3 => ll_cell (j := 3) hL (by omega) (fun r4 => ll_cell (j := 4) hL (by omega) (fun r5 => ⟨90, 1424, by omega, by omega, ll_lawOf rfl⟩)))))
end
