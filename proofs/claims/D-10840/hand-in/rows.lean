section
/-- a Java boolean -/
def pm_fl (b : Bool) : Int32 := bif b then 1 else 0
def pm_w (x : Int32) : Int32 := if 0 ≤ x then (if x ≤ 12 then x else 12) else 0
def pm_good (x : Int32) : Bool := !decide (x < 0) && !decide (12 < x)
def pm_fact (x : Int32) : Bool := !decide (x < 0) && !decide (3 < x)
def pm_set (x : Int32) : Bool := !decide (x < 0) && !decide (15 < x)
def pm_bit (x k : Int32) : Bool := decide (((x >>> (k &&& 31)) &&& 1) = 1)
/-- what the law calls holds (of facts) and later (of x) -/
def pm_hold (k x : Int32) : Bool := pm_fact k && (pm_set x && pm_bit x k)
def pm_n (f h : Bool) : Int32 := bif f then (bif h then 1 else 0) else -1
theorem pm_if {b : Bool} {A B : Prop} (f : b = false → A) (g : b = true → B) : (pm_fl b = 0 → A) ∧ (¬ pm_fl b = 0 → B) := by
  cases b
  · exact br_t rfl (f rfl)
  · exact br_f (by decide) (g rfl)
section
variable {post : Int32 → St0 → Prop} {mc ms kc ks : Nat} {x0 x1 x2 x3 x4 x6 x7 x8 x9 x10 x11 x12 x13 x14 x15 x16 z0 z1 : Int32} {b12 b13 b14 b15 b16 : Bool}
theorem pm_269 (hp : post 1 ()) (h : z1 = z0) : wL_lawOf_269 post mc ms z0 z1 kc ks := br_t h hp
theorem pm_237 (hp : post 1 ()) (h11 : x11 = pm_w x0) (h10 : x10 = x16) (h : z1 = z0) : wL_lawOf_237 post mc ms x0 x10 x11 x16 z0 z1 kc ks := by
  refine br_t h (br_t h10 (br_c (fun g => br_c (fun g2 => pm_269 hp ?_) (fun g2 => pm_269 hp ?_)) (fun g => pm_269 hp ?_)))
  · rw [h11, pm_w, if_pos g, if_pos g2]
  · rw [h11, pm_w, if_pos g, if_neg g2]
  · rw [h11, pm_w, if_neg g]
theorem pm_213 (hp : post 1 ()) (h11 : x11 = pm_w x0) (h10 : x10 = x16) (h9 : x9 = pm_n b13 b15) (h : z1 = z0) : wL_lawOf_213 post mc ms x0 x9 x10 x11 (pm_fl b13) (pm_fl b15) x16 z0 z1 kc ks :=
  br_t h (pm_if (fun e => pm_237 hp h11 h10 (by rw [h9, e]; rfl)) (fun e => pm_if (fun e2 => pm_237 hp h11 h10 (by rw [h9, e, e2]; rfl)) (fun e2 => pm_237 hp h11 h10 (by rw [h9, e, e2]; rfl))))
theorem pm_194 (hp : post 1 ()) (h11 : x11 = pm_w x0) (h10 : x10 = x16) (h9 : x9 = pm_n b13 b15) (h8 : x8 = pm_fl (b15 && decide (x3 = 0))) (h : z1 = z0) : wL_lawOf_194 post mc ms x0 x3 x8 x9 x10 x11 (pm_fl b13) (pm_fl b15) x16 z0 z1 kc ks := by
  refine br_t h (pm_if (fun e => ?_) (fun e => br_c (fun g => ?_) (fun g => ?_)))
  · exact pm_213 hp h11 h10 h9 (by rw [h8, e]; rfl)
  · exact pm_213 hp h11 h10 h9 (by rw [h8, e, decide_eq_true g]; rfl)
  · exact pm_213 hp h11 h10 h9 (by rw [h8, e, decide_eq_false g]; rfl)
theorem pm_179 (hp : post 1 ()) (h11 : x11 = pm_w x0) (h10 : x10 = x16) (h9 : x9 = pm_n b13 b15) (h8 : x8 = pm_fl (b15 && decide (x3 = 0))) (h7 : x7 = bif b14 then 0 else -1) (h : z1 = z0) : wL_lawOf_179 post mc ms x0 x3 x7 x8 x9 x10 x11 (pm_fl b13) (pm_fl b14) (pm_fl b15) x16 z0 z1 kc ks :=
  br_t h (pm_if (fun e => pm_194 hp h11 h10 h9 h8 (by rw [h7, e]; rfl)) (fun e => pm_194 hp h11 h10 h9 h8 (by rw [h7, e]; rfl)))
theorem pm_165 (hp : post 1 ()) (h11 : x11 = pm_w x0) (h10 : x10 = x16) (h9 : x9 = pm_n b13 b15) (h8 : x8 = pm_fl (b15 && decide (x3 = 0))) (h7 : x7 = bif b14 then 0 else -1) (h6 : x6 = bif b12 then 1 else -1) : wL_lawOf_165 post mc ms x0 x3 x6 x7 x8 x9 x10 x11 (pm_fl b12) (pm_fl b13) (pm_fl b14) (pm_fl b15) x16 kc ks :=
  pm_if (fun e => pm_179 hp h11 h10 h9 h8 h7 (by rw [h6, e]; rfl)) (fun e => pm_179 hp h11 h10 h9 h8 h7 (by rw [h6, e]; rfl))
theorem pm_131 (H : wL_lawOf_165 post mc ms x0 x3 x6 x7 x8 x9 x10 x11 x12 (pm_fl b13) x14 x15 (pm_fl (b13 && (pm_set x4 && pm_bit x4 x1))) kc ks) : wL_lawOf_131 post mc ms x0 x1 x3 x4 x6 x7 x8 x9 x10 x11 x12 (pm_fl b13) x14 x15 kc ks := by
  refine pm_if (fun e => ?_) (fun e => br_c (fun g => ?_) (fun g => br_c (fun g2 => ?_) (fun g2 => br_c (fun g3 => ?_) (fun g3 => ?_))))
  · rw [show (b13 && (pm_set x4 && pm_bit x4 x1)) = false by simp [e]] at H
    exact H
  · rw [show (b13 && (pm_set x4 && pm_bit x4 x1)) = false by simp [pm_set, g]] at H
    exact H
  · rw [show (b13 && (pm_set x4 && pm_bit x4 x1)) = false by simp [pm_set, g2]] at H
    exact H
  · rw [show (b13 && (pm_set x4 && pm_bit x4 x1)) = true by simp [pm_set, pm_bit, e, g, g2, g3]] at H
    exact H
  · rw [show (b13 && (pm_set x4 && pm_bit x4 x1)) = false by simp [pm_bit, g3]] at H
    exact H
theorem pm_105 (H : wL_lawOf_131 post mc ms x0 x1 x3 x4 x6 x7 x8 x9 x10 x11 x12 (pm_fl b13) (pm_fl b14) (pm_fl (b13 && (b14 && pm_bit x2 x1))) kc ks) : wL_lawOf_105 post mc ms x0 x1 x2 x3 x4 x6 x7 x8 x9 x10 x11 x12 (pm_fl b13) (pm_fl b14) kc ks := by
  refine pm_if (fun e => ?_) (fun e => pm_if (fun e2 => ?_) (fun e2 => br_c (fun g3 => ?_) (fun g3 => ?_)))
  · rw [show (b13 && (b14 && pm_bit x2 x1)) = false by simp [e]] at H
    exact H
  · rw [show (b13 && (b14 && pm_bit x2 x1)) = false by simp [e2]] at H
    exact H
  · rw [show (b13 && (b14 && pm_bit x2 x1)) = true by simp [pm_bit, e, e2, g3]] at H
    exact H
  · rw [show (b13 && (b14 && pm_bit x2 x1)) = false by simp [pm_bit, g3]] at H
    exact H
theorem pm_88 (H : wL_lawOf_105 post mc ms x0 x1 x2 x3 x4 x6 x7 x8 x9 x10 x11 x12 x13 (pm_fl (pm_set x2)) kc ks) : wL_lawOf_88 post mc ms x0 x1 x2 x3 x4 x6 x7 x8 x9 x10 x11 x12 x13 kc ks := by
  refine br_c (fun g => ?_) (fun g => br_c (fun g2 => ?_) (fun g2 => ?_))
  · rw [show pm_set x2 = false by simp [pm_set, g]] at H
    exact H
  · rw [show pm_set x2 = false by simp [pm_set, g2]] at H
    exact H
  · rw [show pm_set x2 = true by simp [pm_set, g, g2]] at H
    exact H
theorem pm_72 (H : wL_lawOf_88 post mc ms x0 x1 x2 x3 x4 x6 x7 x8 x9 x10 x11 x12 (pm_fl (pm_fact x1)) kc ks) : wL_lawOf_72 post mc ms x0 x1 x2 x3 x4 x6 x7 x8 x9 x10 x11 x12 kc ks := by
  refine br_c (fun g => ?_) (fun g => br_c (fun g2 => ?_) (fun g2 => ?_))
  · rw [show pm_fact x1 = false by simp [pm_fact, g]] at H
    exact H
  · rw [show pm_fact x1 = false by simp [pm_fact, g2]] at H
    exact H
  · rw [show pm_fact x1 = true by simp [pm_fact, g, g2]] at H
    exact H
/-- the law's last row: what the answers must be -/
theorem pm_law (hp : post 1 ()) (h6 : x6 = bif pm_good x1 then 1 else -1) (h7 : x7 = bif pm_set x2 then 0 else -1) (h8 : x8 = pm_fl (pm_hold x1 x2 && decide (x3 = 0)))
    (h9 : x9 = pm_n (pm_fact x1) (pm_hold x1 x2)) (h10 : x10 = pm_fl (pm_hold x1 x4)) (h11 : x11 = pm_w x0) :
    (x1 < 0 → wL_lawOf_71 post mc ms x0 x1 x2 x3 x4 x6 x7 x8 x9 x10 x11 kc ks) ∧ (¬ x1 < 0 → ((12 < x1 → wL_lawOf_71 post mc ms x0 x1 x2 x3 x4 x6 x7 x8 x9 x10 x11 kc ks) ∧ (¬ 12 < x1 → wL_lawOf_72 post mc ms x0 x1 x2 x3 x4 x6 x7 x8 x9 x10 x11 1 kc ks))) := by
  have H : wL_lawOf_72 post mc ms x0 x1 x2 x3 x4 x6 x7 x8 x9 x10 x11 (pm_fl (pm_good x1)) kc ks := pm_72 (pm_88 (pm_105 (pm_131 (pm_165 hp h11 h10 h9 h8 h7 h6))))
  refine br_c (fun g => ?_) (fun g => br_c (fun g2 => ?_) (fun g2 => ?_))
  · rw [show pm_good x1 = false by simp [pm_good, g]] at H
    exact H
  · rw [show pm_good x1 = false by simp [pm_good, g2]] at H
    exact H
  · rw [show pm_good x1 = true by simp [pm_good, g, g2]] at H
    exact H
end
end
section
/-- a long that holds one bit -/
def pm_tl (b : Bool) : Int64 := bif b then 1 else 0
/-- the formula isn't complete: no token, or one that wants parts -/
def pm_bad (s : Int32) (a1 : Nat → Int32) : Prop := s = 0 ∨ (s = 1 ∧ ∃ k : Nat, 4 ≤ k ∧ k ≤ 12 ∧ a1 0 = nI k)
/-- the words of events judged: none, or the first one's answer -/
def pm_T (j : Nat) (b : Bool) (a6 : Nat → Int64) : Prop := a6 0 = if j = 0 then 0 else pm_tl b
theorem pm_bit01 (x : Int32) : x &&& 1 = 0 ∨ x &&& 1 = 1 := by
  obtain ⟨i, hi, e⟩ := pk_andE x (m := 1) 1 (by decide)
  rcases (show i = 0 ∨ i = 1 by omega) with h | h
  · left; rw [e, h]; rfl
  · right; rw [e, h]; rfl
theorem pm_bitIf {x k : Int32} {A B : Prop} (f : pm_bit x k = false → A) (g : pm_bit x k = true → B) : ((((x >>> (k &&& 31)) &&& 1) = 0 → A) ∧ (¬ ((x >>> (k &&& 31)) &&& 1) = 0 → B)) := by
  rcases pm_bit01 (x >>> (k &&& 31)) with h | h
  · exact br_t h (f (by rw [pm_bit, h]; rfl))
  · exact br_f (by rw [h]; decide) (g (by rw [pm_bit, h]; rfl))
theorem pm_narB (b : Bool) : narrow .boolean (.int (pm_fl b)) = .int (pm_fl b) := by
  cases b <;> rfl
theorem pm_vnB (b : Bool) : vp_nar .boolean (pm_fl b) = pm_fl b := by
  cases b <;> rfl
theorem pm_in0 (n : Nat) (h : 0 < n) (hn : n < 2 ^ 31) : vp_in 0 n := vp_in_nI (n := 0) h hn
theorem pm_wants0 {post : Int32 → Prop} {x : Int32} {k : Nat} (hk : k ≤ 3) (hx : x = nI k) (H : post 0) : wpX_wants post () x :=
  pk_eq k 5 (fun z => absurd z (by omega)) (fun _ => pk_eq k 6 (fun z => absurd z (by omega)) (fun _ => pk_eq k 10 (fun z => absurd z (by omega)) (fun _ => pk_le 4 k (fun z => absurd z (by omega)) (fun _ => H) rfl hx) hx) hx) hx
theorem pm_wantsP {post : Int32 → Prop} {x : Int32} {k : Nat} (hk : 4 ≤ k) (hk2 : k ≤ 12) (hx : x = nI k) (H1 : post 1) (H2 : post 2) : wpX_wants post () x :=
  pk_eq k 5 (fun _ => H2) (fun _ => pk_eq k 6 (fun _ => H2) (fun _ => pk_eq k 10 (fun _ => H2) (fun _ => pk_le 4 k (fun _ => H1) (fun z => absurd z (by omega)) rfl hx) hx) hx) hx
section
variable {post : Int32 → St2 → Prop} {w s oc c j : Int32} {a1 a2 a3 a4 a5 a7 a8 a9 a10 a11 a12 a13 : Nat → Int32} {a6 : Nat → Int64}
theorem pm_cp0 (H : post 0 (w, 0, 0, c, j, a1, a2, a3, a4, a5, a6, a7, a8, a9, a10, a11, a12, a13)) : wpX_complete post (w, 0, oc, c, j, a1, a2, a3, a4, a5, a6, a7, a8, a9, a10, a11, a12, a13) :=
  Exists.intro 1 (br_t (by decide) (br_t (by decide) H))
theorem pm_cpP {k : Nat} (hk : 4 ≤ k) (hk2 : k ≤ 12) (ha : a1 0 = nI k) (H : ∀ a3' a4', post 0 (w, 1, 1, c, j, a1, a2, a3', a4', a5, a6, a7, a8, a9, a10, a11, a12, a13)) : wpX_complete post (w, 1, oc, c, j, a1, a2, a3, a4, a5, a6, a7, a8, a9, a10, a11, a12, a13) := by
  refine Exists.intro 2 (br_f (by decide) (br_t (by decide) ?_))
  refine ⟨pm_in0 14 (by decide) (by decide), pm_wantsP hk hk2 (show a1 (0 : Int32).toNatClampNeg = nI k by rw [sb_cl0]; exact ha) ?_ ?_⟩
  · refine br_f (by decide) ⟨pm_in0 16 (by decide) (by decide), nm_e ⟨pm_in0 16 (by decide) (by decide), nm_e (nm_r (e' := 1) (by decide) (nm_r (e' := 1) (by decide) ?_))⟩⟩
    exact br_t (by decide) (br_f (by decide) (br_f (by decide) (H _ _)))
  · refine br_f (by decide) ⟨pm_in0 16 (by decide) (by decide), nm_e ⟨pm_in0 16 (by decide) (by decide), nm_e (nm_r (e' := 1) (by decide) (nm_r (e' := 1) (by decide) ?_))⟩⟩
    exact br_t (by decide) (br_f (by decide) (br_f (by decide) (H _ _)))
theorem pm_cpF {k : Nat} (hk : k ≤ 3) (ha : a1 0 = nI k) (H : post 1 (w, 1, 0, c, j, a1, a2, a3, a4, a5, a6, a7, a8, a9, a10, a11, a12, a13)) : wpX_complete post (w, 1, oc, c, j, a1, a2, a3, a4, a5, a6, a7, a8, a9, a10, a11, a12, a13) := by
  refine Exists.intro 2 (br_f (by decide) (br_t (by decide) ?_))
  refine ⟨pm_in0 14 (by decide) (by decide), pm_wants0 hk (show a1 (0 : Int32).toNatClampNeg = nI k by rw [sb_cl0]; exact ha) ?_⟩
  exact br_t (by decide) (nm_r (e' := 1) (by decide) (br_t (by decide) (br_f (by decide) (br_t (by decide) H))))
theorem pm_cpB (hb : pm_bad s a1) (H : ∀ oc' a3' a4', post 0 (w, s, oc', c, j, a1, a2, a3', a4', a5, a6, a7, a8, a9, a10, a11, a12, a13)) : wpX_complete post (w, s, oc, c, j, a1, a2, a3, a4, a5, a6, a7, a8, a9, a10, a11, a12, a13) := by
  rcases hb with h | ⟨h, k, hk, hk2, ha⟩
  · subst h
    exact pm_cp0 (H _ _ _)
  · subst h
    exact pm_cpP hk hk2 ha (fun a3' a4' => H _ _ _)
theorem pm_jdB (hb : pm_bad s a1) (H : ∀ oc' a3' a4', post 0 (w, s, oc', c, j, a1, a2, a3', a4', a5, a6, a7, a8, a9, a10, a11, a12, a13)) : wpX_judge post (w, s, oc, c, j, a1, a2, a3, a4, a5, a6, a7, a8, a9, a10, a11, a12, a13) := by
  unfold wpX_judge
  exact pm_cpB hb (fun oc' a3' a4' => br_t rfl (H oc' a3' a4'))
theorem pm_atB {t : Int32} (hb : pm_bad s a1) (H : ∀ oc' a3' a4', post 0 (w, s, oc', c, j, a1, a2, a3', a4', a5, a6, a7, a8, a9, a10, a11, a12, a13)) : wpX_at post (w, s, oc, c, j, a1, a2, a3, a4, a5, a6, a7, a8, a9, a10, a11, a12, a13) t :=
  br_c (fun _ => H oc a3 a4) (fun _ => br_c (fun _ => H oc a3 a4) (fun _ => pm_jdB hb (fun oc' a3' a4' => br_t rfl (H oc' a3' a4'))))
theorem pm_ctB (hb : pm_bad s a1) (H : ∀ oc' a3' a4', post (-1) (w, s, oc', c, j, a1, a2, a3', a4', a5, a6, a7, a8, a9, a10, a11, a12, a13)) : wpX_count post (w, s, oc, c, j, a1, a2, a3, a4, a5, a6, a7, a8, a9, a10, a11, a12, a13) := by
  unfold wpX_count
  exact pm_jdB hb (fun oc' a3' a4' => br_t rfl (H oc' a3' a4'))
theorem pm_whB {x : Int32} (hb : pm_bad s a1) (H : ∀ oc' a3' a4', post 0 (w, s, oc', c, j, a1, a2, a3', a4', a5, a6, a7, a8, a9, a10, a11, a12, a13)) : wpX_wouldHold post (w, s, oc, c, j, a1, a2, a3, a4, a5, a6, a7, a8, a9, a10, a11, a12, a13) x :=
  br_c (fun _ => H oc a3 a4) (fun _ => br_c (fun _ => H oc a3 a4) (fun _ => pm_jdB hb (fun oc' a3' a4' => br_t rfl (H oc' a3' a4'))))
end
section
variable {post : Int32 → St2 → Prop} {w s oc c j : Int32} {a1 a2 a3 a4 a5 a7 a8 a9 a10 a11 a12 a13 : Nat → Int32} {a6 : Nat → Int64}
theorem pm_bg {post : St2 → Prop} (H : ∀ a7' a9' a10', post (w, s, oc, c, j, a1, a2, a3, a4, a5, a6, a7', a8, a9', a10', a11, a12, a13)) : wpX_begin post (w, s, oc, c, j, a1, a2, a3, a4, a5, a6, a7, a8, a9, a10, a11, a12, a13) :=
  pk_loop (σ := (Nat → Int32) × (Nat → Int32) × (Nat → Int32)) (fun n i q => wX_begin_2 post w s oc c j n (nI i) a1 a2 a3 a4 a5 a6 q.1 a8 q.2.1 q.2.2 a11 a12 a13) (fun _ _ => True) 14 0 (a7, a9, a10) (by omega) trivial
    (fun n q _ => br_t (by decide) (H q.1 q.2.1 q.2.2))
    (fun n i q hi _ hw => pk_le 14 i (fun z => absurd z (by omega)) (fun _ => ⟨pk_in i 14 hi, nm_e ⟨pk_in i 14 hi, br_c
      (fun _ => ⟨pk_in i 14 hi, nm_e ⟨pk_in i 14 hi, nm_e (nm_r (nI_1 i) (hw (_, _, _) trivial))⟩⟩)
      (fun _ => ⟨pk_in i 14 hi, nm_e ⟨pk_in i 14 hi, nm_e (nm_r (nI_1 i) (hw (_, _, _) trivial))⟩⟩)⟩⟩))
theorem pm_pt {x t : Int32} {k : Nat} (hk : k ≤ 3) (ha : a1 0 = nI k) (H : post (pm_fl (pm_bit x (nI k))) (w, s, oc, c, j, a1, a2, a3, a4, a5, a6, a7, a8, a9, a10, a11, a12, a13)) : wpX_partAt post (w, s, oc, c, j, a1, a2, a3, a4, a5, a6, a7, a8, a9, a10, a11, a12, a13) 0 x t := by
  refine ⟨pm_in0 14 (by decide) (by decide), nm_r (e' := nI k) (by rw [sb_cl0]; exact ha) (pk_le 4 k (fun z => absurd z (by omega)) (fun _ => pm_bitIf (fun e => ?_) (fun e => ?_)))⟩
  · rw [e] at H
    exact H
  · rw [e] at H
    exact H
theorem pm_st {x t : Int32} {k : Nat} (hk : k ≤ 3) (ha : a1 0 = nI k) (H : ∀ a7' a8', post (pm_fl (pm_bit x (nI k))) (w, 1, oc, c, j, a1, a2, a3, a4, a5, a6, a7', a8', a9, a10, a11, a12, a13)) : wpX_step post (w, 1, oc, c, j, a1, a2, a3, a4, a5, a6, a7, a8, a9, a10, a11, a12, a13) x t := by
  refine Exists.intro 2 (br_f (by decide) ⟨pm_in0 14 (by decide) (by decide), pm_in0 14 (by decide) (by decide), nm_e (nm_r (e' := 1) (by decide) ?_)⟩)
  refine br_t (by decide) (nm_r (e' := 0) (by decide) (Exists.intro 2 (br_f (by decide) (pm_pt hk ha ?_))))
  refine ⟨pm_in0 14 (by decide) (by decide), nm_r (e' := upd a7 0 (pm_fl (pm_bit x (nI k)))) (by rw [sb_cl0, pm_vnB]) (nm_r (e' := -1) (by decide) (br_t (by decide) ?_))⟩
  rw [pk_us]
  exact ⟨pm_narB _, H _ _⟩
theorem pm_wt {post : Int32 → Prop} {b : Bool} (h : a6 0 = pm_tl b) (H : post (pm_fl b)) : wpX_wasTrue post (w, s, oc, c, j, a1, a2, a3, a4, a5, a6, a7, a8, a9, a10, a11, a12, a13) 0 := by
  refine ⟨vp_in_iff.mpr (by decide), ?_⟩
  rw [show ((0 : Int32) >>> ((6 : Int32) &&& 31)).toNatClampNeg = 0 by decide, h]
  cases b
  · exact br_t (by decide) H
  · exact br_f (by decide) H
end
end
section
theorem pm_up {b : Bool} {a6 : Nat → Int64} {z : Int64} (h : z = pm_tl b) : pm_T 1 b (vp_updL a6 (0 : Int32).toNatClampNeg z) := by
  rw [sb_cl0, pm_T, pk_uLs, h]
  rfl
theorem pm_T0 {b : Bool} {a6 : Nat → Int64} (h : pm_T 0 b a6) : a6 (0 : Int32).toNatClampNeg = 0 := by
  rw [sb_cl0]
  exact h
theorem pm_T1 {b : Bool} {a6 : Nat → Int64} (h : pm_T 1 b a6) : a6 0 = pm_tl b := h
section
variable {post : Int32 → St2 → Prop} {w s oc c j : Int32} {a1 a2 a3 a4 a5 a7 a8 a9 a10 a11 a12 a13 : Nat → Int32} {a6 : Nat → Int64}
theorem pm_j20 {k cc jj : Nat} {b : Bool} (hk : k ≤ 3) (ha : a1 0 = nI k) (hc : cc ≤ 1) (hj : jj ≤ cc) (hT : pm_T jj b a6) (hf : cc = 1 → pm_bit (a5 0) (nI k) = b)
    (H : ∀ a6' a7' a8', pm_T cc b a6' → post 1 (w, 1, oc, nI cc, nI cc, a1, a2, a3, a4, a5, a6', a7', a8', a9, a10, a11, a12, a13)) : ∃ fu, wX_judge_20 post fu w 1 oc (nI cc) (nI jj) a1 a2 a3 a4 a5 a6 a7 a8 a9 a10 a11 a12 a13 := by
  by_cases e : jj = cc
  · subst e
    exact Exists.intro 1 (pk_le jj jj (fun _ => H _ _ _ hT) (fun z => absurd z (by omega)))
  · have e1 : cc = 1 := by omega
    have e0 : jj = 0 := by omega
    subst e1 e0
    refine Exists.intro 2 (br_f (by decide) ⟨pk_in 0 200 (by decide), pm_st hk ha (fun a7' a8' => ?_)⟩)
    refine nm_r (e' := 1) (by decide) (nm_r (e' := 0) (by decide) (pm_if (fun g => ?_) (fun g => ?_)))
    · have gb : b = false := by rw [← hf rfl]; exact g
      refine ⟨pm_in0 4 (by decide) (by decide), pm_in0 4 (by decide) (by decide), nm_e (nm_r (e' := nI 1) (by decide) (br_t (by decide) (H _ _ _ (pm_up ?_))))⟩
      rw [pm_T0 hT, gb]
      decide
    · have gb : b = true := by rw [← hf rfl]; exact g
      refine ⟨pm_in0 4 (by decide) (by decide), pm_in0 4 (by decide) (by decide), nm_e (nm_r (e' := nI 1) (by decide) (br_t (by decide) (H _ _ _ (pm_up ?_))))⟩
      rw [pm_T0 hT, gb]
      decide
theorem pm_jdF {k cc jj : Nat} {b : Bool} (hk : k ≤ 3) (ha : a1 0 = nI k) (hc : cc ≤ 1) (hj : jj ≤ cc) (hT : pm_T jj b a6) (hf : cc = 1 → pm_bit (a5 0) (nI k) = b)
    (H : ∀ a6' a7' a8' a9' a10', pm_T cc b a6' → post 1 (w, 1, 0, nI cc, nI cc, a1, a2, a3, a4, a5, a6', a7', a8', a9', a10', a11, a12, a13)) : wpX_judge post (w, 1, oc, nI cc, nI jj, a1, a2, a3, a4, a5, a6, a7, a8, a9, a10, a11, a12, a13) := by
  unfold wpX_judge
  refine pm_cpF hk ha (br_f (by decide) (br_c (fun _ => pm_bg (fun a7' a9' a10' => ?_)) (fun _ => ?_)))
  · exact pm_j20 hk ha hc hj hT hf (fun a6' a7' a8' h => H _ _ _ _ _ h)
  · exact pm_j20 hk ha hc hj hT hf (fun a6' a7' a8' h => H _ _ _ _ _ h)
theorem pm_atF {k cc jj : Nat} {b : Bool} {t : Int32} (hk : k ≤ 3) (ha : a1 0 = nI k) (hc : cc ≤ 1) (hj : jj ≤ cc) (hT : pm_T jj b a6) (hf : cc = 1 → pm_bit (a5 0) (nI k) = b) (hb : cc = 0 → b = false)
    (H : ∀ jj' oc' a6' a7' a8' a9' a10', jj' ≤ cc → pm_T jj' b a6' → post (pm_fl (b && decide (t = 0))) (w, 1, oc', nI cc, nI jj', a1, a2, a3, a4, a5, a6', a7', a8', a9', a10', a11, a12, a13)) : wpX_at post (w, 1, oc, nI cc, nI jj, a1, a2, a3, a4, a5, a6, a7, a8, a9, a10, a11, a12, a13) t := by
  have H0 : (b && decide (t = 0)) = false → post 0 (w, 1, oc, nI cc, nI jj, a1, a2, a3, a4, a5, a6, a7, a8, a9, a10, a11, a12, a13) := fun e => by
    have h := H jj oc a6 a7 a8 a9 a10 hj hT
    rw [e] at h
    exact h
  refine br_c (fun g => H0 ?_) (fun g => br_c (fun g2 => H0 ?_) (fun g2 => ?_))
  · have n : ¬ t = 0 := fun e => by rw [e] at g; exact absurd g (by decide)
    rw [decide_eq_false n, Bool.and_false]
  · rcases (show cc = 0 ∨ cc = 1 by omega) with e | e
    · rw [hb e, Bool.false_and]
    · have n : ¬ t = 0 := fun e2 => by rw [e, e2] at g2; exact absurd g2 (by decide)
      rw [decide_eq_false n, Bool.and_false]
  · obtain ⟨i, hi, ei⟩ := nI_of g
    have hic : i < cc := by
      rcases Nat.lt_or_ge i cc with z | z
      · exact z
      · exact absurd (nI_le z hi) (by rw [← ei]; exact g2)
    have e1 : cc = 1 := by omega
    have e0 : i = 0 := by omega
    subst e1
    have et : t = 0 := by rw [ei, e0]; rfl
    subst et
    refine pm_jdF hk ha hc hj hT hf (fun a6' a7' a8' a9' a10' h => br_f (by decide) (pm_wt (pm_T1 h) ?_))
    have h2 := H 1 0 a6' a7' a8' a9' a10' (by omega) h
    refine pm_if (fun e => ?_) (fun e => ?_)
    · rw [show (b && decide ((0 : Int32) = 0)) = false by rw [e]; rfl] at h2
      exact h2
    · rw [show (b && decide ((0 : Int32) = 0)) = true by rw [e]; rfl] at h2
      exact h2
theorem pm_ctF {k cc jj : Nat} {b : Bool} (hk : k ≤ 3) (ha : a1 0 = nI k) (hc : cc ≤ 1) (hj : jj ≤ cc) (hT : pm_T jj b a6) (hf : cc = 1 → pm_bit (a5 0) (nI k) = b) (hb : cc = 0 → b = false)
    (H : ∀ oc' a6' a7' a8' a9' a10', pm_T cc b a6' → post (pm_fl b) (w, 1, oc', nI cc, nI cc, a1, a2, a3, a4, a5, a6', a7', a8', a9', a10', a11, a12, a13)) : wpX_count post (w, 1, oc, nI cc, nI jj, a1, a2, a3, a4, a5, a6, a7, a8, a9, a10, a11, a12, a13) := by
  unfold wpX_count
  refine pm_jdF hk ha hc hj hT hf (fun a6' a7' a8' a9' a10' h => br_f (by decide) ?_)
  have h2 := H 0 a6' a7' a8' a9' a10' h
  rcases (show cc = 0 ∨ cc = 1 by omega) with e | e
  · subst e
    rw [hb rfl] at h2
    exact Exists.intro 1 (br_t (by decide) h2)
  · subst e
    refine Exists.intro 2 (br_f (by decide) (pm_wt (pm_T1 h) (pm_if (fun e => ?_) (fun e => ?_))))
    · rw [e] at h2
      exact nm_r (e' := 0) (by decide) (nm_r (e' := 1) (by decide) (br_t (by decide) h2))
    · rw [e] at h2
      exact nm_r (e' := 1) (by decide) (nm_r (e' := 1) (by decide) (br_t (by decide) h2))
theorem pm_im62 {x : Int32} (hx : narrow .boolean (.int x) = .int x) (H : ∀ a7' a9' a10', post x (w, s, oc, c, j, a1, a2, a3, a4, a5, a6, a7', a8, a9', a10', a11, a12, a13)) : ∃ fu, wX_imagine_62 post x w s oc c j fu 0 a1 a2 a3 a4 a5 a6 a7 a8 a9 a10 a11 a12 a13 :=
  pk_loop (σ := (Nat → Int32) × (Nat → Int32) × (Nat → Int32)) (fun n i q => wX_imagine_62 post x w s oc c j n (nI i) a1 a2 a3 a4 a5 a6 q.1 a8 q.2.1 q.2.2 a11 a12 a13) (fun _ _ => True) 14 0 (a7, a9, a10) (by omega) trivial
    (fun n q _ => br_t (by decide) ⟨hx, H q.1 q.2.1 q.2.2⟩)
    (fun n i q hi _ hw => pk_le 14 i (fun z => absurd z (by omega)) (fun _ => ⟨pk_in i 14 hi, pk_in i 14 hi, nm_e ⟨pk_in i 14 hi, pk_in i 14 hi, nm_e ⟨pk_in i 14 hi, pk_in i 14 hi, nm_e (nm_r (nI_1 i) (hw (_, _, _) trivial))⟩⟩⟩))
theorem pm_im {x : Int32} {k : Nat} (hk : k ≤ 3) (ha : a1 0 = nI k) (H : ∀ a7' a8' a9' a10' a11' a12' a13', post (pm_fl (pm_bit x (nI k))) (w, 1, oc, c, j, a1, a2, a3, a4, a5, a6, a7', a8', a9', a10', a11', a12', a13')) : wpX_imagine post (w, 1, oc, c, j, a1, a2, a3, a4, a5, a6, a7, a8, a9, a10, a11, a12, a13) x :=
  pk_loop (σ := (Nat → Int32) × (Nat → Int32) × (Nat → Int32)) (fun n i q => wX_imagine_2 post x w 1 oc c j n (nI i) a1 a2 a3 a4 a5 a6 a7 a8 a9 a10 q.1 q.2.1 q.2.2) (fun _ _ => True) 14 0 (a11, a12, a13) (by omega) trivial
    (fun n q _ => br_t (by decide) (pm_st hk ha (fun a7' a8' => pm_im62 (pm_narB _) (fun a7' a9' a10' => H _ _ _ _ _ _ _))))
    (fun n i q hi _ hw => pk_le 14 i (fun z => absurd z (by omega)) (fun _ => ⟨pk_in i 14 hi, pk_in i 14 hi, nm_e ⟨pk_in i 14 hi, pk_in i 14 hi, nm_e ⟨pk_in i 14 hi, pk_in i 14 hi, nm_e (nm_r (nI_1 i) (hw (_, _, _) trivial))⟩⟩⟩))
theorem pm_whF {k cc jj : Nat} {b : Bool} {x : Int32} (hk : k ≤ 3) (ha : a1 0 = nI k) (hc : cc ≤ 1) (hj : jj ≤ cc) (hT : pm_T jj b a6) (hf : cc = 1 → pm_bit (a5 0) (nI k) = b)
    (H : ∀ oc' j' a6' a7' a8' a9' a10' a11' a12' a13', post (pm_fl (pm_set x && pm_bit x (nI k))) (w, 1, oc', nI cc, j', a1, a2, a3, a4, a5, a6', a7', a8', a9', a10', a11', a12', a13')) : wpX_wouldHold post (w, 1, oc, nI cc, nI jj, a1, a2, a3, a4, a5, a6, a7, a8, a9, a10, a11, a12, a13) x := by
  refine br_c (fun g => ?_) (fun g => br_c (fun g2 => ?_) (fun g2 => ?_))
  · have h := H oc (nI jj) a6 a7 a8 a9 a10 a11 a12 a13
    rw [show (pm_set x && pm_bit x (nI k)) = false by simp [pm_set, g]] at h
    exact h
  · have h := H oc (nI jj) a6 a7 a8 a9 a10 a11 a12 a13
    rw [show (pm_set x && pm_bit x (nI k)) = false by simp [pm_set, g2]] at h
    exact h
  · rw [show (pm_set x && pm_bit x (nI k)) = pm_bit x (nI k) by simp [pm_set, g, g2]] at H
    refine pm_jdF hk ha hc hj hT hf (fun a6' a7' a8' a9' a10' h => br_f (by decide) (pm_im hk ha (fun a7' a8' a9' a10' a11' a12' a13' => pm_if (fun e => ?_) (fun e => ?_))))
    · rw [e] at H
      exact H _ _ _ _ _ _ _ _ _ _
    · rw [e] at H
      exact H _ _ _ _ _ _ _ _ _ _
end
end
section
theorem pm_i8 : ∀ t, t < 16 → (nI t).toInt8.toInt32 = nI t := by decide +kernel
theorem pm_cell {post : Int32 → Prop} {L : Nat} {xs : Nat → Int32} {x : Int32} (i : Nat) (hi : i < 5) (hx : x = nI i) (hL : L ≤ 5) (H : ∀ y, post y) : wpL_cellAt post L xs () x :=
  pk_le L i (fun _ => H _) (fun z => ⟨pk_in i L z hx, H _⟩) rfl hx
theorem pm_init {post : St2 → Prop} {p : Int32} (H : post (pm_w p, 0, 0, 0, 0, (fun _ => 0), (fun _ => 0), (fun _ => 0), (fun _ => 0), (fun _ => 0), (fun _ => 0), (fun _ => 0), (fun _ => 0), (fun _ => 0), (fun _ => 0), (fun _ => 0), (fun _ => 0), (fun _ => 0))) : wpX_init post 13 362 (0, 0, 0, 0, 0) p := by
  refine ⟨by decide, by decide, by decide, by decide, by decide, by decide, by decide, by decide, by decide, by decide, by decide, by decide, by decide, by decide, by decide, by decide, by decide, by decide, by decide, by decide, by decide, by decide, by decide, by decide, by decide, by decide, br_c (fun g => br_c (fun g2 => ?_) (fun g2 => ?_)) (fun g => ?_)⟩
  · rw [pm_w, if_pos g, if_pos g2] at H
    exact H
  · rw [pm_w, if_pos g, if_neg g2] at H
    exact H
  · rw [pm_w, if_neg g] at H
    exact H
section
variable {post : Int32 → St2 → Prop} {w s oc c j : Int32} {a1 a2 a3 a4 a5 a7 a8 a9 a10 a11 a12 a13 : Nat → Int32} {a6 : Nat → Int64}
theorem pm_feed {p : Int32} (HN : pm_good p = false → pm_fact p = false → post (-1) (w, 0, oc, c, 0, a1, a2, a3, a4, a5, a6, a7, a8, a9, a10, a11, a12, a13)) (HP : ∀ k : Nat, k ≤ 12 → p = nI k → pm_good p = true → post 1 (w, 1, 0, c, 0, upd a1 0 (nI k), a2, a3, a4, a5, a6, a7, a8, a9, a10, a11, a12, a13)) : wpX_feed post (w, 0, oc, c, 0, a1, a2, a3, a4, a5, a6, a7, a8, a9, a10, a11, a12, a13) p := by
  refine br_c (fun g => HN ?_ ?_) (fun g => br_c (fun g2 => HN ?_ ?_) (fun g2 => br_f (by decide) (pm_cp0 (br_t rfl ?_))))
  · simp [pm_good, g]
  · simp [pm_fact, g]
  · simp [pm_good, g2]
  · have h3 : 3 < p := by
      have h12 : (12 : Int32) < p := g2
      rw [Int32.lt_iff_toInt_lt] at h12 ⊢
      have e12 : (12 : Int32).toInt = 12 := by decide
      have e3 : (3 : Int32).toInt = 3 := by decide
      omega
    simp [pm_fact, h3]
  · have g3 : p ≤ 12 := Int32.not_lt.mp g2
    obtain ⟨k, hk, e⟩ := nI_of2 (M := 12) (n := 12) (by decide) g g3
    refine ⟨pm_in0 14 (by decide) (by decide), nm_r (e' := upd a1 0 (nI k)) ?_ (nm_r (e' := 1) (by decide) (HP k hk e ?_))⟩
    · rw [sb_cl0, e, pm_i8 k (by omega)]
    · simp [pm_good, g, g2]
theorem pm_event {p : Int32} (HN : pm_set p = false → post (-1) (w, s, oc, nI 0, j, a1, a2, a3, a4, a5, a6, a7, a8, a9, a10, a11, a12, a13)) (HS : pm_set p = true → post 0 (w, s, oc, nI 1, j, a1, a2, a3, a4, upd a5 0 p, a6, a7, a8, a9, a10, a11, a12, a13)) : wpX_event post (w, s, oc, nI 0, j, a1, a2, a3, a4, a5, a6, a7, a8, a9, a10, a11, a12, a13) p := by
  refine br_c (fun g => HN ?_) (fun g => br_c (fun g2 => br_t (by decide) ?_) (fun g2 => HN ?_))
  · simp [pm_set, g]
  · obtain ⟨k, hk, e⟩ := nI_of2 (M := 15) (n := 15) (by decide) g g2
    refine ⟨pk_in 0 200 (by decide), nm_r (e' := upd a5 0 p) ?_ (nm_r (e' := nI 1) (by decide) (HS ?_))⟩
    · rw [nI_clamp (by decide), e, pm_i8 k (by omega)]
    · have g3 : ¬ 15 < p := Int32.not_lt.mpr g2
      simp [pm_set, g, g3]
  · have g3 : 15 < p := Int32.not_le.mp g2
    simp [pm_set, g3]
end
theorem pm_all {post : Int32 → St0 → Prop} (hp : post 1 ()) (p0 p1 p2 p3 p4 : Int32) : wpL_lawOf post 14 380 () p0 p1 p2 p3 p4 := by
  refine ⟨by decide, by decide, 13, 362, by decide, by decide, pm_init ?_⟩
  have h7n : pm_set p2 = false → (-1 : Int32) = bif pm_set p2 then 0 else -1 := fun e => by rw [e]; rfl
  have h7s : pm_set p2 = true → (0 : Int32) = bif pm_set p2 then 0 else -1 := fun e => by rw [e]; rfl
  have h6n : pm_good p1 = false → (-1 : Int32) = bif pm_good p1 then 1 else -1 := fun e => by rw [e]; rfl
  have h6s : pm_good p1 = true → (1 : Int32) = bif pm_good p1 then 1 else -1 := fun e => by rw [e]; rfl
  have h8b : pm_fact p1 = false → (0 : Int32) = pm_fl (pm_hold p1 p2 && decide (p3 = 0)) := fun e => by rw [pm_hold, e]; rfl
  have h9b : pm_fact p1 = false → (-1 : Int32) = pm_n (pm_fact p1) (pm_hold p1 p2) := fun e => by rw [e]; rfl
  have h10b : pm_fact p1 = false → (0 : Int32) = pm_fl (pm_hold p1 p4) := fun e => by rw [pm_hold, e]; rfl
  refine pm_feed (fun gd ft => ?_) (fun k hk ek gd => ?_)
  · have hb : pm_bad 0 (fun _ => 0) := Or.inl rfl
    refine pm_event (fun st => ?_) (fun st => ?_)
    · exact pm_atB hb (fun _ _ _ => pm_ctB hb (fun _ _ _ => pm_whB hb (fun _ _ _ => pm_law hp (h6n gd) (h7n st) (h8b ft) (h9b ft) (h10b ft) rfl)))
    · exact pm_atB hb (fun _ _ _ => pm_ctB hb (fun _ _ _ => pm_whB hb (fun _ _ _ => pm_law hp (h6n gd) (h7s st) (h8b ft) (h9b ft) (h10b ft) rfl)))
  · by_cases k3 : k ≤ 3
    · have ft : pm_fact p1 = true := by
        have t1 : ¬ nI k < 0 := nI_pos (by omega)
        have t2 : ¬ 3 < nI k := nI_nlt (a := 3) (b := k) k3 (by decide)
        rw [ek]
        simp [pm_fact, t1, t2]
      have ha : upd (fun _ => 0) 0 (nI k) 0 = nI k := pk_us
      have hT : pm_T 0 (pm_hold p1 p2) (fun _ => 0) := rfl
      have h9 : pm_fl (pm_hold p1 p2) = pm_n (pm_fact p1) (pm_hold p1 p2) := by rw [ft]; rfl
      have h10 : pm_fl (pm_set p4 && pm_bit p4 (nI k)) = pm_fl (pm_hold p1 p4) := by rw [pm_hold, ft, Bool.true_and, ek]
      refine pm_event (fun st => ?_) (fun st => ?_)
      · have hb : pm_hold p1 p2 = false := by rw [pm_hold, st, Bool.false_and, Bool.and_false]
        refine pm_atF (cc := 0) (jj := 0) k3 ha (by omega) (by omega) hT (fun z => absurd z (by omega)) (fun _ => hb) (fun jj' _ _ _ _ _ _ hj' hT' => ?_)
        refine pm_ctF (cc := 0) k3 ha (by omega) hj' hT' (fun z => absurd z (by omega)) (fun _ => hb) (fun _ _ _ _ _ _ hT2 => ?_)
        exact pm_whF (cc := 0) (jj := 0) k3 ha (by omega) (by omega) hT2 (fun z => absurd z (by omega)) (fun _ _ _ _ _ _ _ _ _ _ => pm_law hp (h6s gd) (h7n st) rfl h9 h10 rfl)
      · have hf : (1 : Nat) = 1 → pm_bit (upd (fun _ => 0) 0 p2 0) (nI k) = pm_hold p1 p2 := fun _ => by rw [pk_us, pm_hold, ft, st, Bool.true_and, Bool.true_and, ek]
        refine pm_atF (cc := 1) (jj := 0) k3 ha (by omega) (by omega) hT hf (fun z => absurd z (by omega)) (fun jj' _ _ _ _ _ _ hj' hT' => ?_)
        refine pm_ctF (cc := 1) k3 ha (by omega) hj' hT' hf (fun z => absurd z (by omega)) (fun _ _ _ _ _ _ hT2 => ?_)
        exact pm_whF (cc := 1) (jj := 1) k3 ha (by omega) (by omega) hT2 hf (fun _ _ _ _ _ _ _ _ _ _ => pm_law hp (h6s gd) (h7s st) rfl h9 h10 rfl)
    · have ft : pm_fact p1 = false := by
        have t2 : 3 < nI k := nI_lt (a := 3) (b := k) (by omega) (by omega)
        rw [ek]
        simp [pm_fact, t2]
      have hb : pm_bad 1 (upd (fun _ => 0) 0 (nI k)) := Or.inr ⟨rfl, k, by omega, hk, pk_us⟩
      refine pm_event (fun st => ?_) (fun st => ?_)
      · exact pm_atB hb (fun _ _ _ => pm_ctB hb (fun _ _ _ => pm_whB hb (fun _ _ _ => pm_law hp (h6s gd) (h7n st) (h8b ft) (h9b ft) (h10b ft) rfl)))
      · exact pm_atB hb (fun _ _ _ => pm_ctB hb (fun _ _ _ => pm_whB hb (fun _ _ _ => pm_law hp (h6s gd) (h7s st) (h8b ft) (h9b ft) (h10b ft) rfl)))
theorem i_vc (xs : Nat → Int32) (L : Nat) (hL : L ≤ 5) : wpL_law (fun r => r = 1) L xs :=
  pm_cell 0 (by decide) rfl hL (fun r1 => pm_cell 1 (by decide) rfl hL (fun r2 => pm_cell 2 (by decide) rfl hL (fun r3 => pm_cell 3 (by decide) rfl hL (fun r4 => pm_cell 4 (by decide) rfl hL (fun r5 =>
    Exists.intro 14 (Exists.intro 380 ⟨by decide, by decide, pm_all (post := fun r _ => r = 1) rfl r1 r2 r3 r4 r5⟩))))))
end
