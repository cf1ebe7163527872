section
/-! plain facts about the two ints 0 and 1 that index this law's states -/
theorem rb_c01 : (0 : Int32).toNatClampNeg ≠ (1 : Int32).toNatClampNeg := by decide
theorem rb_i0 : vp_in (0 : Int32) 49 := pk_in 0 49 (by omega)
theorem rb_i1 : vp_in (1 : Int32) 49 := pk_in 1 49 (by omega)
theorem rb_iz {x : Int32} (h : x = 0) : vp_in x 49 := by
  rw [h]
  exact rb_i0
theorem rb_48 : ¬ (48 : Int32) ≤ 0 := by decide
theorem rb_481 : ¬ (48 : Int32) ≤ 0 + 1 := by decide
theorem rb_00 : (0 : Int32) ≤ 0 := by decide
theorem rb_10 : ¬ (1 : Int32) ≤ 0 := by decide
theorem rb_n1 : ¬ (1 : Int32) = 0 := by decide
theorem rb_z {x : Int32} (h : x = 0) : x ≤ 0 := by
  rw [h]
  exact rb_00
theorem rb_lt {h k : Int32} (a : h ≤ k) (n : ¬ k = h) : h < k := Int32.lt_of_le_of_ne a (fun e => n e.symm)
theorem rb_in {l h k : Int32} (hk : h < k) (lh : l ≤ h) : l ≤ k := Int32.le_trans lh (Int32.le_of_lt hk)
theorem rb_out {l h k : Int32} (n : ¬ l ≤ h) : k < l ∨ h < k := by
  by_cases c : k < l
  · exact Or.inl c
  · exact Or.inr (Int32.lt_of_lt_of_le (Int32.not_le.mp n) (Int32.not_lt.mp c))
/-- one entry, at node 1: key k, value v; it is black, it has no children and nothing above it; node 0 has neither entries nor values -/
def rb_O (k v : Int32) (a1 a2 a3 a4 a5 a6 a7 : Nat → Int32) (a8 : Nat → Int64) : Prop :=
  a1 (1 : Int32).toNatClampNeg = 0 ∧ a2 (1 : Int32).toNatClampNeg = 0 ∧ a3 (1 : Int32).toNatClampNeg = 0 ∧ a4 (0 : Int32).toNatClampNeg = 0 ∧ a4 (1 : Int32).toNatClampNeg = 0 ∧
  a5 (1 : Int32).toNatClampNeg = k ∧ a6 (0 : Int32).toNatClampNeg = 0 ∧ a6 (1 : Int32).toNatClampNeg = v ∧ a7 (0 : Int32).toNatClampNeg = 0 ∧ a8 (0 : Int32).toNatClampNeg = 0
end
section
section
variable {r f c k v x y : Int32} {a1 a2 a3 a4 a5 a6 a7 : Nat → Int32} {a8 : Nat → Int64}
/-! the constructor: the loop only writes 'above' -/
theorem rb_init {post : St2 → Prop} {mc ms : Nat} (hc : 8 ≤ mc) (hs : 392 ≤ ms) (H : ∀ b3 : Nat → Int32, post (0, 1, 0, (fun _ => 0), (fun _ => 0), b3, (fun _ => 0), (fun _ => 0), (fun _ => 0), (fun _ => 0), (fun _ => 0))) : wpX_init post mc ms (0, 0, 0) := by
  unfold wpX_init
  refine ⟨by omega, by omega, by omega, by omega, by omega, by omega, by omega, by omega, by omega, by omega, by omega, by omega, by omega, by omega, by omega, by omega, ?_⟩
  exact pk_loop (fun n i s => wX_init_70 post mc ms 8 392 0 0 0 n (nI i) (fun _ => 0) (fun _ => 0) s (fun _ => 0) (fun _ => 0) (fun _ => 0) (fun _ => 0) (fun _ => 0)) (fun _ _ => True) 49 1 (fun _ => 0) (by omega) trivial
    (fun n s _ => pk_le 49 49 (fun _ => H s) (fun z => absurd z (by omega)))
    (fun n i s hi _ hw => pk_le 49 i (fun z => absurd z (by omega)) (fun _ => pk_eq i 48 (fun _ => ⟨pk_in i 49 hi, nm_e (nm_r (nI_1 i) (hw _ trivial))⟩) (fun _ => ⟨pk_in i 49 hi, nm_e (nm_r (nI_1 i) (hw _ trivial))⟩)))
/-! walks from the root: node 0 (no entry) -/
theorem rb_nodeAt0 {post : Int32 → Prop} (H : post 0) : wpX_nodeAt post (0, f, c, a1, a2, a3, a4, a5, a6, a7, a8) x :=
  Exists.intro 1 (br_f rb_48 (br_t rb_00 H))
theorem rb_find0 {post : Int32 → Prop} (H : post 0) : wpX_find post (0, f, c, a1, a2, a3, a4, a5, a6, a7, a8) x :=
  Exists.intro 1 (br_f rb_48 (br_t rb_00 H))
theorem rb_ceiling0 {post : Int32 → Prop} (H : post 0) : wpX_ceiling post (0, f, c, a1, a2, a3, a4, a5, a6, a7, a8) x :=
  Exists.intro 1 (br_f rb_48 (br_t rb_00 H))
/-! walks from the root: node 1 alone -/
theorem rb_find1 {post : Int32 → Prop} (o : rb_O k v a1 a2 a3 a4 a5 a6 a7 a8) (ht : k = x → post 1) (hf : ¬ k = x → post 0) : wpX_find post (1, f, c, a1, a2, a3, a4, a5, a6, a7, a8) x := by
  obtain ⟨h1, h2, h3, h40, h41, h5, h60, h61, h7, h8⟩ := o
  subst h5
  exact Exists.intro 2 (br_f rb_48 (br_f rb_10 ⟨rb_i1, br_c ht (fun e => ⟨rb_i1, br_c (fun _ => ⟨rb_i1, nm_r h2 (nm_e (br_f rb_481 (br_t rb_00 (hf e))))⟩) (fun _ => ⟨rb_i1, nm_r h1 (nm_e (br_f rb_481 (br_t rb_00 (hf e))))⟩)⟩)⟩))
theorem rb_below1 {post : Int32 → Prop} (o : rb_O k v a1 a2 a3 a4 a5 a6 a7 a8) (ht : x ≤ k → post 0) (hf : ¬ x ≤ k → post 1) : wpX_below post (1, f, c, a1, a2, a3, a4, a5, a6, a7, a8) x := by
  obtain ⟨h1, h2, h3, h40, h41, h5, h60, h61, h7, h8⟩ := o
  subst h5
  exact Exists.intro 2 (br_f rb_48 (br_f rb_10 ⟨rb_i1, br_c (fun e => ⟨rb_i1, nm_r h1 (nm_e (br_f rb_481 (br_t rb_00 (ht e))))⟩) (fun e => ⟨rb_i1, rb_iz h1, nm_r (e' := 1) (by rw [h1, h7]; decide) ⟨rb_i1, nm_r h2 (nm_e (br_f rb_481 (br_t rb_00 (hf e))))⟩⟩)⟩))
theorem rb_sumBelow1 {post : Int64 → Prop} (o : rb_O k v a1 a2 a3 a4 a5 a6 a7 a8) (ht : x ≤ k → post 0) (hf : ¬ x ≤ k → post v.toInt64) : wpX_sumBelow post (1, f, c, a1, a2, a3, a4, a5, a6, a7, a8) x := by
  obtain ⟨h1, h2, h3, h40, h41, h5, h60, h61, h7, h8⟩ := o
  subst h5
  exact Exists.intro 2 (br_f rb_48 (br_f rb_10 ⟨rb_i1, br_c (fun e => ⟨rb_i1, nm_r h1 (nm_e (br_f rb_481 (br_t rb_00 (ht e))))⟩) (fun e => ⟨rb_i1, rb_iz h1, rb_i1, nm_r (e' := v.toInt64) (by rw [h1, h8, h61, Int64.zero_add, Int64.zero_add]) ⟨rb_i1, nm_r h2 (nm_e (br_f rb_481 (br_t rb_00 (hf e))))⟩⟩)⟩))
theorem rb_ceiling1 {post : Int32 → Prop} (o : rb_O k v a1 a2 a3 a4 a5 a6 a7 a8) (ht : k < x → post 0) (hf : ¬ k < x → post 1) : wpX_ceiling post (1, f, c, a1, a2, a3, a4, a5, a6, a7, a8) x := by
  obtain ⟨h1, h2, h3, h40, h41, h5, h60, h61, h7, h8⟩ := o
  subst h5
  exact Exists.intro 2 (br_f rb_48 (br_f rb_10 ⟨rb_i1, br_c (fun e => ⟨rb_i1, nm_r h2 (nm_e (br_f rb_481 (br_t rb_00 (ht e))))⟩) (fun e => ⟨rb_i1, nm_r h1 (nm_e (br_f rb_481 (br_t rb_00 (hf e))))⟩)⟩))
theorem rb_nodeAt1 {post : Int32 → Prop} (o : rb_O k v a1 a2 a3 a4 a5 a6 a7 a8) (ht : x = 0 → post 1) (hf : ¬ x = 0 → post 0) : wpX_nodeAt post (1, f, c, a1, a2, a3, a4, a5, a6, a7, a8) x := by
  obtain ⟨h1, h2, h3, h40, h41, h5, h60, h61, h7, h8⟩ := o
  exact Exists.intro 2 (br_f rb_48 (br_f rb_10 ⟨rb_i1, rb_iz h1, nm_r (e' := 0) (by rw [h1, h7]) (br_c ht (fun e => br_c (fun _ => nm_e ⟨rb_i1, nm_r h2 (nm_e (br_f rb_481 (br_t rb_00 (hf e))))⟩) (fun _ => ⟨rb_i1, nm_r h1 (nm_e (br_f rb_481 (br_t rb_00 (hf e))))⟩)))⟩))
theorem rb_nodeBehind1 {post : Int32 → Prop} (o : rb_O k v a1 a2 a3 a4 a5 a6 a7 a8) (H : post 0) : wpX_nodeBehind post (1, f, c, a1, a2, a3, a4, a5, a6, a7, a8) 1 := by
  obtain ⟨h1, h2, h3, h40, h41, h5, h60, h61, h7, h8⟩ := o
  refine And.intro rb_i1 (br_t (rb_z h2) (Exists.intro 1 (br_f rb_48 ⟨rb_i1, br_t (rb_z h3) ⟨rb_i1, ?_⟩⟩)))
  rw [h3]
  exact H
/-! the methods that only answer -/
theorem rb_get1 {post : Int32 → Prop} (o : rb_O k v a1 a2 a3 a4 a5 a6 a7 a8) (ht : k = x → post v) (hf : ¬ k = x → post 0) : wpX_get post (1, f, c, a1, a2, a3, a4, a5, a6, a7, a8) x := by
  unfold wpX_get
  refine rb_find1 o (fun e => br_f rb_n1 ⟨rb_i1, ?_⟩) (fun e => br_t rfl (hf e))
  rw [o.2.2.2.2.2.2.2.1]
  exact ht e
theorem rb_place1 {post : Int32 → Prop} (o : rb_O k v a1 a2 a3 a4 a5 a6 a7 a8) (ht : k = x → post 0) (hf : ¬ k = x → post (-1)) : wpX_place post (1, f, c, a1, a2, a3, a4, a5, a6, a7, a8) x := by
  unfold wpX_place
  exact rb_find1 o (fun e => br_f rb_n1 (rb_below1 o (fun _ => ht e) (fun n => absurd (by rw [e]; exact Int32.le_refl _) n))) (fun e => br_t rfl (hf e))
theorem rb_count25 {post : Int32 → Prop} {z0 z1 w : Int32} (o : rb_O k v a1 a2 a3 a4 a5 a6 a7 a8) (hw : z1 + z0 = w) (ht : x ≤ k → post (w - 0)) (hf : ¬ x ≤ k → post (w - 1)) : wX_count_25 post x z0 z1 1 f c a1 a2 a3 a4 a5 a6 a7 a8 := by
  unfold wX_count_25
  exact nm_r hw (rb_below1 o ht hf)
theorem rb_count1 {post : Int32 → Prop} (o : rb_O k v a1 a2 a3 a4 a5 a6 a7 a8) (hin : ¬ k < x → ¬ y < k → post 1) (hout : k < x ∨ y < k → post 0) : wpX_count post (1, f, c, a1, a2, a3, a4, a5, a6, a7, a8) x y := by
  have e00 : (0 : Int32) - 0 = 0 := by decide
  have e10 : (1 : Int32) - 0 = 1 := by decide
  have e11 : (1 : Int32) - 1 = 0 := by decide
  unfold wpX_count
  refine br_c (fun xy => rb_below1 o (fun yk => rb_find1 o (fun e => br_f rb_10 ?_) (fun e => br_t rb_00 ?_)) (fun yk => rb_find1 o (fun e => ?_) (fun e => br_t rb_00 ?_))) (fun xy => hout (rb_out xy))
  · refine rb_count25 (w := 1) o (by decide) (fun a => ?_) (fun a => ?_)
    · rw [e10]
      exact hin (Int32.not_lt.mpr a) (by rw [e]; exact Int32.lt_irrefl)
    · rw [e11]
      exact hout (Or.inl (Int32.not_le.mp a))
  · refine rb_count25 (w := 0) o (by decide) (fun a => ?_) (fun a => ?_)
    · rw [e00]
      exact hout (Or.inr (rb_lt yk e))
    · exact absurd (Int32.le_trans xy yk) a
  · exact absurd (by rw [e]; exact Int32.le_refl _) yk
  · refine rb_count25 (w := 1) o (by decide) (fun a => ?_) (fun a => ?_)
    · rw [e10]
      exact hin (Int32.not_lt.mpr a) (Int32.not_lt.mpr (Int32.le_of_lt (Int32.not_le.mp yk)))
    · rw [e11]
      exact hout (Or.inl (Int32.not_le.mp a))
theorem rb_sum1 {post : Int64 → Prop} (o : rb_O k v a1 a2 a3 a4 a5 a6 a7 a8) (hin : ¬ k < x → ¬ y < k → post v.toInt64) (hout : k < x ∨ y < k → post 0) : wpX_sum post (1, f, c, a1, a2, a3, a4, a5, a6, a7, a8) x y := by
  have q0 : a6 (0 : Int32).toNatClampNeg = 0 := o.2.2.2.2.2.2.1
  have q1 : a6 (1 : Int32).toNatClampNeg = v := o.2.2.2.2.2.2.2.1
  have z : (0 : Int32).toInt64 = 0 := by decide
  unfold wpX_sum
  refine br_c (fun xy => rb_find1 o (fun e => rb_sumBelow1 o (fun yk => ⟨rb_i1, rb_sumBelow1 o (fun a => ?_) (fun a => ?_)⟩) (fun yk => ?_)) (fun e => rb_sumBelow1 o (fun yk => ⟨rb_i0, rb_sumBelow1 o (fun a => ?_) (fun a => ?_)⟩) (fun yk => ⟨rb_i0, rb_sumBelow1 o (fun a => ?_) (fun a => ?_)⟩))) (fun xy => hout (rb_out xy))
  · rw [q1, Int64.zero_add, Int64.sub_zero]
    exact hin (Int32.not_lt.mpr a) (by rw [e]; exact Int32.lt_irrefl)
  · rw [q1, Int64.zero_add, Int64.sub_self]
    exact hout (Or.inl (Int32.not_le.mp a))
  · exact absurd (by rw [e]; exact Int32.le_refl _) yk
  · rw [q0, z, Int64.zero_add, Int64.sub_zero]
    exact hout (Or.inr (rb_lt yk e))
  · exact absurd (Int32.le_trans xy yk) a
  · rw [q0, z, Int64.add_zero, Int64.sub_zero]
    exact hin (Int32.not_lt.mpr a) (Int32.not_lt.mpr (Int32.le_of_lt (Int32.not_le.mp yk)))
  · rw [q0, z, Int64.add_zero, Int64.sub_self]
    exact hout (Or.inl (Int32.not_le.mp a))
end
end
section
section
variable {r f c k v w x y : Int32} {a1 a2 a3 a4 a5 a6 a7 : Nat → Int32} {a8 : Nat → Int64}
/-! sizes and sums anew: node 1 alone; they stay 0 at node 0 -/
theorem rb_refresh1 {post : St2 → Prop} (h1 : a1 (1 : Int32).toNatClampNeg = 0) (h2 : a2 (1 : Int32).toNatClampNeg = 0)
    (H : ∀ b7 b8, b7 (0 : Int32).toNatClampNeg = a7 (0 : Int32).toNatClampNeg → b8 (0 : Int32).toNatClampNeg = a8 (0 : Int32).toNatClampNeg → post (r, f, c, a1, a2, a3, a4, a5, a6, b7, b8)) : wpX_refresh post (r, f, c, a1, a2, a3, a4, a5, a6, a7, a8) 1 := by
  unfold wpX_refresh
  exact ⟨rb_i1, rb_iz h1, rb_i1, rb_iz h2, rb_i1, nm_e ⟨rb_i1, rb_iz h1, rb_i1, rb_iz h2, rb_i1, rb_i1, nm_e (H _ _ (pk_un rb_c01) (pk_uLn rb_c01))⟩⟩
theorem rb_refreshUp1 {post : St2 → Prop} (h1 : a1 (1 : Int32).toNatClampNeg = 0) (h2 : a2 (1 : Int32).toNatClampNeg = 0) (h3 : a3 (1 : Int32).toNatClampNeg = 0)
    (H : ∀ b7 b8, b7 (0 : Int32).toNatClampNeg = a7 (0 : Int32).toNatClampNeg → b8 (0 : Int32).toNatClampNeg = a8 (0 : Int32).toNatClampNeg → post (r, f, c, a1, a2, a3, a4, a5, a6, b7, b8)) : wpX_refreshUp post (r, f, c, a1, a2, a3, a4, a5, a6, a7, a8) 1 :=
  Exists.intro 2 (br_f rb_48 (br_f rb_10 (rb_refresh1 h1 h2 (fun b7 b8 e7 e8 => ⟨rb_i1, nm_r h3 (nm_e (br_f rb_481 (br_t rb_00 (H b7 b8 e7 e8))))⟩))))
theorem rb_refreshUp0 {post : St2 → Prop} (H : post (r, f, c, a1, a2, a3, a4, a5, a6, a7, a8)) : wpX_refreshUp post (r, f, c, a1, a2, a3, a4, a5, a6, a7, a8) 0 :=
  Exists.intro 1 (br_f rb_48 (br_t rb_00 H))
theorem rb_settleAdded1 {post : St2 → Prop} (h3 : a3 (1 : Int32).toNatClampNeg = 0) (h4 : a4 (0 : Int32).toNatClampNeg = 0) (H : post (1, f, c, a1, a2, a3, upd a4 (1 : Int32).toNatClampNeg 0, a5, a6, a7, a8)) : wpX_settleAdded post (1, f, c, a1, a2, a3, a4, a5, a6, a7, a8) 1 :=
  Exists.intro 1 (br_f rb_48 ⟨rb_i1, rb_iz h3, br_t (by rw [h3]; exact h4) ⟨rb_i1, nm_e H⟩⟩)
/-! put: into the empty map, and again -/
theorem rb_put0 {post : Int32 → St2 → Prop} (h4 : a4 (0 : Int32).toNatClampNeg = 0) (h6 : a6 (0 : Int32).toNatClampNeg = 0) (h7 : a7 (0 : Int32).toNatClampNeg = 0) (h8 : a8 (0 : Int32).toNatClampNeg = 0)
    (H : ∀ g b1 b2 b3 b4 b5 b6 b7 b8, rb_O k v b1 b2 b3 b4 b5 b6 b7 b8 → post 1 (1, g, c, b1, b2, b3, b4, b5, b6, b7, b8)) : wpX_put post (0, 1, c, a1, a2, a3, a4, a5, a6, a7, a8) k v := by
  refine Exists.intro 1 (br_f rb_48 (br_t rb_00 ?_))
  unfold wX_put_89
  refine br_f rb_n1 ⟨rb_i1, nm_e ⟨rb_i1, nm_e ⟨rb_i1, nm_e ⟨rb_i1, nm_e ⟨rb_i1, nm_e ⟨rb_i1, nm_e ⟨rb_i1, nm_e (br_t rfl ?_)⟩⟩⟩⟩⟩⟩⟩
  unfold wX_put_205
  refine rb_refreshUp1 pk_us pk_us pk_us (fun b7 b8 e7 e8 => rb_settleAdded1 pk_us ((pk_un rb_c01).trans h4) (H _ _ _ _ _ _ _ _ _ ⟨pk_us, pk_us, pk_us, ?_, pk_us, pk_us, ?_, pk_us, e7.trans h7, e8.trans h8⟩))
  · exact (pk_un rb_c01).trans ((pk_un rb_c01).trans h4)
  · exact (pk_un rb_c01).trans h6
theorem rb_put1 {post : Int32 → St2 → Prop} (o : rb_O k w a1 a2 a3 a4 a5 a6 a7 a8)
    (H : ∀ b1 b2 b3 b4 b5 b6 b7 b8, rb_O k v b1 b2 b3 b4 b5 b6 b7 b8 → post 0 (1, f, c, b1, b2, b3, b4, b5, b6, b7, b8)) : wpX_put post (1, f, c, a1, a2, a3, a4, a5, a6, a7, a8) k v := by
  obtain ⟨h1, h2, h3, h40, h41, h5, h60, h61, h7, h8⟩ := o
  exact Exists.intro 1 (br_f rb_48 (br_f rb_10 ⟨rb_i1, br_t h5 ⟨rb_i1, nm_e (rb_refreshUp1 h1 h2 h3 (fun b7 b8 e7 e8 => H _ _ _ _ _ _ _ _ ⟨h1, h2, h3, h40, h41, h5, (pk_un rb_c01).trans h60, pk_us, e7.trans h7, e8.trans h8⟩))⟩⟩))
/-! the cursor -/
theorem rb_seek1 {post : Int32 → St2 → Prop} (o : rb_O k v a1 a2 a3 a4 a5 a6 a7 a8) (ht : k < x → post 1 (1, f, 0, a1, a2, a3, a4, a5, a6, a7, a8)) (hf : ¬ k < x → post 0 (1, f, 1, a1, a2, a3, a4, a5, a6, a7, a8)) : wpX_seek post (1, f, c, a1, a2, a3, a4, a5, a6, a7, a8) x := by
  unfold wpX_seek
  exact rb_ceiling1 o (fun e => rb_below1 o (fun a => absurd a (Int32.not_le.mpr e)) (fun _ => ht e)) (fun e => rb_below1 o (fun _ => hf e) (fun a => absurd (Int32.not_lt.mp e) a))
theorem rb_set0 {post : Int32 → St2 → Prop} (H : post 0 (r, f, 0, a1, a2, a3, a4, a5, a6, a7, a8)) : wpX_set post (r, f, 0, a1, a2, a3, a4, a5, a6, a7, a8) x := br_t rfl H
theorem rb_set1 {post : Int32 → St2 → Prop} (o : rb_O k v a1 a2 a3 a4 a5 a6 a7 a8) (H : ∀ b1 b2 b3 b4 b5 b6 b7 b8, rb_O k x b1 b2 b3 b4 b5 b6 b7 b8 → post v (1, f, 1, b1, b2, b3, b4, b5, b6, b7, b8)) : wpX_set post (1, f, 1, a1, a2, a3, a4, a5, a6, a7, a8) x := by
  obtain ⟨h1, h2, h3, h40, h41, h5, h60, h61, h7, h8⟩ := o
  exact br_f rb_n1 ⟨rb_i1, nm_r h61 ⟨rb_i1, nm_e (rb_refreshUp1 h1 h2 h3 (fun b7 b8 e7 e8 => H _ _ _ _ _ _ _ _ ⟨h1, h2, h3, h40, h41, h5, (pk_un rb_c01).trans h60, pk_us, e7.trans h7, e8.trans h8⟩))⟩⟩
theorem rb_jump1 {post : Int32 → St2 → Prop} (o : rb_O k v a1 a2 a3 a4 a5 a6 a7 a8) (ht : x = 0 → post 1 (1, f, 1, a1, a2, a3, a4, a5, a6, a7, a8)) (hf : ¬ x = 0 → post 0 (1, f, 0, a1, a2, a3, a4, a5, a6, a7, a8)) : wpX_jump post (1, f, c, a1, a2, a3, a4, a5, a6, a7, a8) x := by
  unfold wpX_jump
  exact br_c (fun _ => rb_nodeAt1 o (fun e => br_f rb_10 (ht e)) (fun e => br_t rb_00 (hf e))) (fun n => br_t rb_00 (hf (fun e => n (by rw [e]; exact rb_00))))
/-! removing the one entry -/
theorem rb_replace1 {post : St2 → Prop} (h3 : a3 (1 : Int32).toNatClampNeg = 0) (H : ∀ b3, post (0, f, c, a1, a2, b3, a4, a5, a6, a7, a8)) : wpX_replace post (r, f, c, a1, a2, a3, a4, a5, a6, a7, a8) 1 0 :=
  And.intro rb_i1 (nm_r h3 (br_t rfl ⟨rb_i0, nm_e (H _)⟩))
theorem rb_settleRemoved0 {post : St2 → Prop} (H : ∀ b4, post (0, f, c, a1, a2, a3, b4, a5, a6, a7, a8)) : wpX_settleRemoved post (0, f, c, a1, a2, a3, a4, a5, a6, a7, a8) 0 :=
  Exists.intro 1 (br_f rb_48 (br_t rfl ⟨rb_i0, nm_e (H _)⟩))
theorem rb_183 {post : St2 → Prop} (H : ∀ b3 b4, post (0, 1, c, a1, a2, b3, b4, a5, a6, a7, a8)) : wX_removeNode_183 post 1 0 f c a1 a2 a3 a4 a5 a6 a7 a8 := by
  unfold wX_removeNode_183
  exact nm_e (nm_e ⟨rb_i1, nm_e (H _ _)⟩)
theorem rb_168 {post : St2 → Prop} (H : ∀ b3 b4, post (0, 1, c, a1, a2, b3, b4, a5, a6, a7, a8)) : wX_removeNode_168 post 1 1 0 0 0 f c a1 a2 a3 a4 a5 a6 a7 a8 := by
  unfold wX_removeNode_168
  exact rb_refreshUp0 (br_f rb_n1 (rb_settleRemoved0 (fun _ => rb_183 H)))
theorem rb_17 {post : St2 → Prop} (o : rb_O k v a1 a2 a3 a4 a5 a6 a7 a8) (H : ∀ b3 b4, post (0, 1, c, a1, a2, b3, b4, a5, a6, a7, a8)) : wX_removeNode_17 post 1 1 f c a1 a2 a3 a4 a5 a6 a7 a8 := by
  obtain ⟨h1, h2, h3, h40, h41, h5, h60, h61, h7, h8⟩ := o
  unfold wX_removeNode_17
  refine ⟨rb_i1, br_t h41 ?_⟩
  unfold wX_removeNode_31
  refine ⟨rb_i1, br_t h1 ?_⟩
  unfold wX_removeNode_50
  refine ⟨rb_i1, br_t h1 ⟨rb_i1, ?_⟩⟩
  rw [h2]
  unfold wX_removeNode_74
  exact ⟨rb_i1, nm_r h3 (rb_replace1 h3 (fun _ => rb_168 H))⟩
theorem rb_removeNode1 {post : St2 → Prop} (o : rb_O k v a1 a2 a3 a4 a5 a6 a7 a8) (H : ∀ d b3 b4, post (0, 1, d, a1, a2, b3, b4, a5, a6, a7, a8)) : wpX_removeNode post (1, f, c, a1, a2, a3, a4, a5, a6, a7, a8) 1 := by
  unfold wpX_removeNode
  exact br_c (fun _ => rb_nodeBehind1 o (rb_17 o (H _))) (fun _ => rb_17 o (H _))
theorem rb_removeAll1 {post : Int32 → St2 → Prop} (o : rb_O k v a1 a2 a3 a4 a5 a6 a7 a8) (hin : ¬ k < x → ¬ y < k → ∀ d b3 b4, post 1 (0, 1, d, a1, a2, b3, b4, a5, a6, a7, a8)) (hout : k < x ∨ y < k → post 0 (1, f, c, a1, a2, a3, a4, a5, a6, a7, a8)) : wpX_removeAll post (1, f, c, a1, a2, a3, a4, a5, a6, a7, a8) x y := by
  refine Exists.intro 2 (br_f rb_48 (rb_ceiling1 o (fun e => br_t rfl (hout (Or.inl e))) (fun e => br_f rb_n1 ⟨rb_i1, br_c (fun a => ?_) (fun a => ?_)⟩)))
  · rw [o.2.2.2.2.2.1] at a
    exact rb_removeNode1 o (fun d b3 b4 => nm_r (e' := 1) (by decide) (nm_e (br_f rb_481 (rb_ceiling0 (br_t rfl (hin e (Int32.not_lt.mpr a) d b3 b4))))))
  · rw [o.2.2.2.2.2.1] at a
    exact hout (Or.inr (Int32.not_le.mp a))
theorem rb_remove0 {post : Int32 → St2 → Prop} (H : post 0 (0, f, c, a1, a2, a3, a4, a5, a6, a7, a8)) : wpX_remove post (0, f, c, a1, a2, a3, a4, a5, a6, a7, a8) x := by
  unfold wpX_remove
  exact rb_find0 (br_t rfl H)
theorem rb_remove1 {post : Int32 → St2 → Prop} (o : rb_O k v a1 a2 a3 a4 a5 a6 a7 a8) (H : ∀ d b3 b4, post 1 (0, 1, d, a1, a2, b3, b4, a5, a6, a7, a8)) : wpX_remove post (1, f, c, a1, a2, a3, a4, a5, a6, a7, a8) k := by
  unfold wpX_remove
  exact rb_find1 o (fun _ => br_f rb_n1 (rb_removeNode1 o H)) (fun e => absurd rfl e)
end
end
section
section
variable {post : Int32 → St0 → Prop} {mc ms kc ks : Nat} {f c k v w o lo hi x6 x7 z : Int32} {a1 a2 a3 a4 a5 a6 a7 : Nat → Int32} {a8 : Nat → Int64}
/-- x7: is the key between low and high? -/
def rb_in7 (k lo hi x7 : Int32) : Prop := (x7 = 1 ∧ ¬ k < lo ∧ ¬ hi < k) ∨ (x7 = 0 ∧ (k < lo ∨ hi < k))
/-- x6: is the other key the key? -/
def rb_is6 (k o x6 : Int32) : Prop := (x6 = 1 ∧ k = o) ∨ (x6 = 0 ∧ ¬ k = o)
theorem rb_7in {A B : Prop} (h : rb_in7 k lo hi x7) (n : ¬ k < lo) (m : ¬ hi < k) (b : x7 = 1 → B) : (x7 = 0 → A) ∧ (¬ x7 = 0 → B) := by
  rcases h with ⟨e, _⟩ | ⟨_, q⟩
  · exact br_f (by rw [e]; exact rb_n1) (b e)
  · exact absurd q (fun q => q.elim n m)
theorem rb_7out {A B : Prop} (h : rb_in7 k lo hi x7) (q : k < lo ∨ hi < k) (a : x7 = 0 → A) : (x7 = 0 → A) ∧ (¬ x7 = 0 → B) := by
  rcases h with ⟨_, n, m⟩ | ⟨e, _⟩
  · exact absurd q (fun q => q.elim n m)
  · exact br_t e (a e)
theorem rb_6t {A B : Prop} (h : rb_is6 k o x6) (q : k = o) (b : B) : (x6 = 0 → A) ∧ (¬ x6 = 0 → B) := by
  rcases h with ⟨e, _⟩ | ⟨_, n⟩
  · exact br_f (by rw [e]; exact rb_n1) b
  · exact absurd q n
theorem rb_6f {A B : Prop} (h : rb_is6 k o x6) (q : ¬ k = o) (a : A) : (x6 = 0 → A) ∧ (¬ x6 = 0 → B) := by
  rcases h with ⟨_, n⟩ | ⟨e, _⟩
  · exact absurd n q
  · exact br_t e a
theorem rb_l286 (hp : post 1 ()) : wL_lawOf_286 post mc ms z z kc ks := br_t rfl hp
/-- the last remove: the entry is gone (root 0) -/
theorem rb_l267g (hp : post 1 ()) (e : x7 = 1) : wL_lawOf_267 post mc ms k x7 z z kc ks 0 f c a1 a2 a3 a4 a5 a6 a7 a8 := by
  unfold wL_lawOf_267
  exact br_t rfl (rb_remove0 (br_f (by rw [e]; exact rb_n1) (rb_l286 hp)))
/-- the last remove: the entry is still there -/
theorem rb_l267s (hp : post 1 ()) (q : rb_O k v a1 a2 a3 a4 a5 a6 a7 a8) (e : x7 = 0) : wL_lawOf_267 post mc ms k x7 z z kc ks 1 f c a1 a2 a3 a4 a5 a6 a7 a8 := by
  unfold wL_lawOf_267
  exact br_t rfl (rb_remove1 q (fun _ _ _ => br_t e (rb_l286 hp)))
theorem rb_l246 (hp : post 1 ()) (q : rb_O k v a1 a2 a3 a4 a5 a6 a7 a8) (h7 : rb_in7 k lo hi x7) : wL_lawOf_246 post mc ms k lo hi x7 z z kc ks 1 f c a1 a2 a3 a4 a5 a6 a7 a8 := by
  unfold wL_lawOf_246
  exact br_t rfl (rb_removeAll1 q (fun n m _ _ _ => rb_7in h7 n m (fun e => rb_l267g hp e)) (fun n => rb_7out h7 n (fun e => rb_l267s hp q e)))
theorem rb_l226 (hp : post 1 ()) (q : rb_O k v a1 a2 a3 a4 a5 a6 a7 a8) (h7 : rb_in7 k lo hi x7) : wL_lawOf_226 post mc ms k lo hi x7 z z kc ks 1 f c a1 a2 a3 a4 a5 a6 a7 a8 := by
  unfold wL_lawOf_226
  exact br_t rfl (rb_jump1 q (fun e => br_t e (rb_l246 hp q h7)) (fun e => br_f e (rb_l246 hp q h7)))
/-- set: the cursor is at the end (the key is less than the other one) -/
theorem rb_l206e (hp : post 1 ()) (q : rb_O k v a1 a2 a3 a4 a5 a6 a7 a8) (h7 : rb_in7 k lo hi x7) (e : k < o) : wL_lawOf_206 post mc ms k v o lo hi x7 z z kc ks 1 f 0 a1 a2 a3 a4 a5 a6 a7 a8 := by
  unfold wL_lawOf_206
  exact br_t rfl (rb_set0 (br_t e (rb_l226 hp q h7)))
/-- set: the cursor is at the entry -/
theorem rb_l206a (hp : post 1 ()) (q : rb_O k v a1 a2 a3 a4 a5 a6 a7 a8) (h7 : rb_in7 k lo hi x7) (e : ¬ k < o) : wL_lawOf_206 post mc ms k v o lo hi x7 z z kc ks 1 f 1 a1 a2 a3 a4 a5 a6 a7 a8 := by
  unfold wL_lawOf_206
  exact br_t rfl (rb_set1 q (fun _ _ _ _ _ _ _ _ q' => br_f e (rb_l226 hp q' h7)))
theorem rb_l188e (hp : post 1 ()) (q : rb_O k v a1 a2 a3 a4 a5 a6 a7 a8) (h7 : rb_in7 k lo hi x7) (e : k < o) : wL_lawOf_188 post mc ms k v o lo hi x7 z z kc ks 1 f 0 a1 a2 a3 a4 a5 a6 a7 a8 := by
  unfold wL_lawOf_188
  exact br_t rfl (br_t rfl (br_t e (rb_l206e hp q h7 e)))
theorem rb_l188a (hp : post 1 ()) (q : rb_O k v a1 a2 a3 a4 a5 a6 a7 a8) (h7 : rb_in7 k lo hi x7) (e : ¬ k < o) : wL_lawOf_188 post mc ms k v o lo hi x7 z z kc ks 1 f 1 a1 a2 a3 a4 a5 a6 a7 a8 := by
  unfold wL_lawOf_188
  refine br_t rfl (br_f rb_n1 ⟨rb_i1, br_f e ?_⟩)
  rw [q.2.2.2.2.2.1]
  exact rb_l206a hp q h7 e
theorem rb_l156 {z1 : Int64} (hp : post 1 ()) (q : rb_O k v a1 a2 a3 a4 a5 a6 a7 a8) (h7 : rb_in7 k lo hi x7) (hz : z1 = z.toInt64) : wL_lawOf_156 post mc ms k v o lo hi x7 z z1 kc ks 1 f 0 a1 a2 a3 a4 a5 a6 a7 a8 := by
  unfold wL_lawOf_156
  exact br_t hz (br_t rfl (br_t rfl (rb_seek1 q (fun e => br_t e (rb_l188e hp q h7 e)) (fun e => br_f e (rb_l188a hp q h7 e)))))
theorem rb_l135 (hp : post 1 ()) (q : rb_O k v a1 a2 a3 a4 a5 a6 a7 a8) (h7 : rb_in7 k lo hi x7) : wL_lawOf_135 post mc ms k v o lo hi x7 z z kc ks 1 f 0 a1 a2 a3 a4 a5 a6 a7 a8 := by
  unfold wL_lawOf_135
  exact br_t rfl (rb_sum1 q (fun n m => rb_7in h7 n m (fun _ => rb_l156 hp q h7 rfl)) (fun n => rb_7out h7 n (fun _ => rb_l156 hp q h7 (by decide))))
theorem rb_l114 (hp : post 1 ()) (q : rb_O k v a1 a2 a3 a4 a5 a6 a7 a8) (h7 : rb_in7 k lo hi x7) : wL_lawOf_114 post mc ms k v o lo hi x7 z z kc ks 1 f 0 a1 a2 a3 a4 a5 a6 a7 a8 := by
  unfold wL_lawOf_114
  exact br_t rfl (rb_count1 q (fun n m => rb_7in h7 n m (fun _ => rb_l135 hp q h7)) (fun n => rb_7out h7 n (fun _ => rb_l135 hp q h7)))
theorem rb_l95 (hp : post 1 ()) (q : rb_O k v a1 a2 a3 a4 a5 a6 a7 a8) (h6 : rb_is6 k o x6) (h7 : rb_in7 k lo hi x7) : wL_lawOf_95 post mc ms k v o lo hi x6 x7 z z kc ks 1 f 0 a1 a2 a3 a4 a5 a6 a7 a8 := by
  unfold wL_lawOf_95
  exact br_t rfl (rb_place1 q (fun e => rb_6t h6 e (rb_l114 hp q h7)) (fun e => rb_6f h6 e (rb_l114 hp q h7)))
theorem rb_l77 (hp : post 1 ()) (q : rb_O k v a1 a2 a3 a4 a5 a6 a7 a8) (h6 : rb_is6 k o x6) (h7 : rb_in7 k lo hi x7) : wL_lawOf_77 post mc ms k v o lo hi x6 x7 kc ks 1 f 0 a1 a2 a3 a4 a5 a6 a7 a8 := by
  unfold wL_lawOf_77
  exact rb_get1 q (fun e => rb_6t h6 e (rb_l95 hp q h6 h7)) (fun e => rb_6f h6 e (rb_l95 hp q h6 h7))
theorem rb_l59 (hp : post 1 ()) (q : rb_O k v a1 a2 a3 a4 a5 a6 a7 a8) (h6 : rb_is6 k o x6) : wL_lawOf_59 post mc ms k v o lo hi x6 kc ks 1 f 0 a1 a2 a3 a4 a5 a6 a7 a8 := by
  unfold wL_lawOf_59
  refine br_c (fun e => ?_) (fun e => br_c (fun d => ?_) (fun d => ?_))
  · unfold wL_lawOf_76
    exact rb_l77 hp q h6 (Or.inr ⟨rfl, Or.inl e⟩)
  · unfold wL_lawOf_76
    exact rb_l77 hp q h6 (Or.inr ⟨rfl, Or.inr d⟩)
  · exact rb_l77 hp q h6 (Or.inl ⟨rfl, e, d⟩)
theorem rb_lawOf (hp : post 1 ()) : wpL_lawOf post 9 403 () k v o lo hi := by
  unfold wpL_lawOf
  refine ⟨by omega, by omega, 8, 392, by omega, by omega, rb_init (by omega) (by omega) (fun b3 => ?_)⟩
  refine br_t rfl (br_t rfl ?_)
  unfold wpX_back
  refine br_t rfl ⟨rb_i0, rb_nodeAt0 ?_⟩
  unfold wX_back_33
  refine br_t rfl (br_t rfl (rb_put0 (v := v) rfl rfl rfl rfl (fun g b1 b2 b3 b4 b5 b6 b7 b8 q => br_t rfl (rb_put1 q (fun d1 d2 d3 d4 d5 d6 d7 d8 q' => br_t rfl ?_)))))
  exact br_c (fun e => rb_l59 hp q' (Or.inl ⟨rfl, e.symm⟩)) (fun e => rb_l59 hp q' (Or.inr ⟨rfl, fun z => e z.symm⟩))
end
end
section
/-- a cell of the script: there or 0, either way the law goes on -/
theorem rb_cell {post : Int32 → Prop} {L : Nat} {xs : Nat → Int32} {j : Nat} (hj : j < 5) (hL : L ≤ 5) (H : ∀ t, post t) : wpL_cellAt post L xs () (nI j) := by
  unfold wpL_cellAt
  exact pk_le L j (fun _ => H 0) (fun z => ⟨pk_in j L z, H _⟩)
theorem i_vc (xs : Nat → Int32) (L : Nat) (hL : L ≤ 5) : wpL_law (fun r => r = 1) L xs := by
  unfold wpL_law
  exact rb_cell (j := 0) (by omega) hL (fun t1 => rb_cell (j := 1) (by omega) hL (fun t2 => rb_cell (j := 2) (by omega) hL (fun t3 => rb_cell (j := 3) (by omega) hL (fun t4 => rb_cell (j := 4) (by omega) hL (fun t5 => ⟨9, 403, by omega, by omega, rb_lawOf rfl⟩)))))
end
