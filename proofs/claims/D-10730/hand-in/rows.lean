section
section
variable {t nd ss ln dp : Int32} {a1 a2 a3 a4 a5 a6 a7 a8 a9 a10 a11 : Nat → Int32}
theorem pg_fill {s : Nat → Int32} {i k : Nat} {x : Int32} (hk : k = i) (h : ∀ j, j < i → s j = x) : ∀ j, j < i + 1 → upd s k x j = x := by
  intro j hj
  rw [hk]
  by_cases e : j = i
  · rw [e, pk_us]
  · rw [pk_un e]
    exact h j (by omega)
/-- forget: every outcome is unknown behind it -/
theorem pg_forget {post : St2 → Prop} (H : ∀ o : Nat → Int32, (∀ j, j < 840 → o j = -3) → post (t, nd, ss, ln, dp, a1, a2, a3, a4, a5, a6, a7, o, a9, a10, a11)) : wpX_forget post (t, nd, ss, ln, dp, a1, a2, a3, a4, a5, a6, a7, a8, a9, a10, a11) :=
  pk_loop (fun n i s => wX_forget_2 post t nd ss ln dp n (nI i) a1 a2 a3 a4 a5 a6 a7 s a9 a10 a11) (fun i s => ∀ j, j < i → s j = -3) 840 0 a8 (by omega) (fun j hj => absurd hj (by omega))
    (fun n s h => pk_le 840 840 (fun _ => H s h) (fun z => absurd z (by omega)))
    (fun n i s hi h hw => pk_le 840 i (fun z => absurd z (by omega)) (fun _ => ⟨pk_in i 840 hi, nm_e (nm_r (nI_1 i) (hw _ (pg_fill (nI_clamp (by omega)) h)))⟩))
/-- clear: no rule, nothing known -/
theorem pg_clear {post : St2 → Prop} (H : ∀ rn o : Nat → Int32, (∀ j, j < 4 → rn j = -1) → (∀ j, j < 840 → o j = -3) → post (0, 0, 0, ln, dp, a1, a2, a3, a4, a5, rn, a7, o, a9, a10, a11)) : wpX_clear post (t, nd, ss, ln, dp, a1, a2, a3, a4, a5, a6, a7, a8, a9, a10, a11) :=
  pk_loop (fun n i s => wX_clear_17 post 0 0 0 ln dp n (nI i) a1 a2 a3 a4 a5 s a7 a8 a9 a10 a11) (fun i s => ∀ j, j < i → s j = -1) 4 0 a6 (by omega) (fun j hj => absurd hj (by omega))
    (fun n s h => pk_le 4 4 (fun _ => pg_forget (fun o ho => H s o h ho)) (fun z => absurd z (by omega)))
    (fun n i s hi h hw => pk_le 4 i (fun z => absurd z (by omega)) (fun _ => ⟨pk_in i 4 hi, nm_e (nm_r (nI_1 i) (hw _ (pg_fill (nI_clamp (by omega)) h)))⟩))
theorem pg_init {post : St2 → Prop} {mc ms : Nat} (hc : 11 ≤ mc) (hs : 3584 ≤ ms) (H : ∀ rn o : Nat → Int32, (∀ j, j < 4 → rn j = -1) → (∀ j, j < 840 → o j = -3) → post (0, 0, 0, 0, 0, (fun _ => 0), (fun _ => 0), (fun _ => 0), (fun _ => 0), (fun _ => 0), rn, (fun _ => 0), o, (fun _ => 0), (fun _ => 0), (fun _ => 0))) : wpX_init post mc ms (0, 0, 0, 0, 0) :=
  ⟨by omega, by omega, by omega, by omega, by omega, by omega, by omega, by omega, by omega, by omega, by omega, by omega, by omega, by omega, by omega, by omega, by omega, by omega, by omega, by omega, by omega, by omega, pg_clear (fun rn o h1 h2 => H rn o h1 h2)⟩
/-- a single token on an empty stack of nodes -/
theorem pg_tok {post : Int32 → St2 → Prop} {c : Nat} {x2 : Int32} (hc : c ≤ 3) (H : post 1 (1, 1, 1, ln, dp, upd a1 0 (nI c), upd a2 0 (x2 &&& 3), upd a3 0 (-1), upd a4 0 (-1), upd a5 0 0, a6, a7, a8, a9, a10, a11)) : wpX_token post (0, 0, 0, ln, dp, a1, a2, a3, a4, a5, a6, a7, a8, a9, a10, a11) (nI c) x2 := by
  refine pk_lt 3 c (fun z => absurd z (by omega)) (fun _ => ?_)
  refine br_f (nI_pos (by omega)) (pk_lt 10 c (fun z => absurd z (by omega)) (fun _ => br_f (by decide) (br_t (by decide) (nm_r (show (0 : Int32) + 1 = 1 from by decide) (pk_eq c 10 (fun z => absurd z (by omega)) (fun _ => ⟨pk_in 0 40 (by decide), nm_e ⟨pk_in 0 40 (by decide), nm_e (br_t (by decide) ?_)⟩⟩))))))
  refine ⟨pk_in 0 40 (by decide), nm_e (br_f (by decide) ?_)⟩
  exact ⟨pk_in 0 40 (by decide), nm_e (nm_r (show (0 : Int32) - 0 = 0 from by decide) ⟨pk_in 0 40 (by decide), nm_e (nm_r (show (0 : Int32) + 1 = 1 from by decide) (nm_r (show (0 : Int32) + 1 = 1 from by decide) H))⟩)⟩
/-- a token that is refused: no such code, or nothing on the stack to take -/
theorem pg_tokN {post : Int32 → St2 → Prop} {x1 x2 : Int32} (hc : x1 < 0 ∨ 3 < x1) (H : post (-1) (t, nd, 0, ln, dp, a1, a2, a3, a4, a5, a6, a7, a8, a9, a10, a11)) : wpX_token post (t, nd, 0, ln, dp, a1, a2, a3, a4, a5, a6, a7, a8, a9, a10, a11) x1 x2 := by
  have h19 : ∀ z : Int32, (x1 < 0 ∨ 0 < z) → wX_token_19 post x1 x2 z t nd 0 ln dp a1 a2 a3 a4 a5 a6 a7 a8 a9 a10 a11 := by
    intro z hz
    exact br_c (fun _ => H) (fun h0 => br_c (fun _ => H) (fun _ => br_t (hz.resolve_left h0) H))
  exact br_c (fun _ => br_c (fun _ => h19 1 (Or.inr (by decide))) (fun _ => h19 2 (Or.inr (by decide)))) (fun h => h19 0 (Or.inl (hc.resolve_right h)))
theorem pg_def {post : Int32 → St2 → Prop} {x2 : Int32} {R : Nat} (hR : R < 4) (hx : x2 &&& 3 = nI R) (H : ∀ o : Nat → Int32, (∀ j, j < 840 → o j = -3) → post 0 (2, nd, 0, ln, dp, a1, a2, a3, a4, a5, upd a6 R (a5 0), a7, o, a9, a10, a11)) : wpX_token post (1, nd, 1, ln, dp, a1, a2, a3, a4, a5, a6, a7, a8, a9, a10, a11) 10 x2 := by
  refine br_t (by decide) (br_t (by decide) ?_)
  refine br_f (by decide) (br_f (by decide) (br_f (by decide) (br_t (by decide) (nm_r (show (1 : Int32) + 1 = 2 from by decide) (br_t rfl (nm_r (show (1 : Int32) - 1 = 0 from by decide) ⟨pk_in 0 40 (by decide), pk_in R 4 hR hx, nm_r (e' := upd a6 R (a5 0)) ?_ (pg_forget (fun o ho => H o ho))⟩))))))
  rw [hx, nI_clamp (by omega), sb_cl0]
theorem pg_type {post : Int32 → St2 → Prop} {x : Int32} (H : ∀ o : Nat → Int32, (∀ j, j < 840 → o j = -3) → post 1 (t, nd, ss, 1, dp, a1, a2, a3, a4, a5, a6, upd a7 0 (x &&& 3), o, a9, a10, a11)) : wpX_type post (t, nd, ss, 0, dp, a1, a2, a3, a4, a5, a6, a7, a8, a9, a10, a11) x :=
  br_t (by decide) ⟨pk_in 0 20 (by decide), nm_e (nm_r (show (0 : Int32) + 1 = 1 from by decide) (pg_forget (fun o ho => H o ho)))⟩
end
end
section
section
variable {t nd ss ln dp : Int32} {a1 a2 a3 a4 a5 a6 a7 a8 a9 a10 a11 : Nat → Int32}
/-- what the only node answers at place p (0 or 1) of a text of one letter -/
def pg_V (a1 a2 a6 a7 : Nat → Int32) (p : Nat) (v : Int32) : Prop :=
  ((a1 0 = 0 ∧ ((p = 0 ∧ a7 0 = a2 0 ∧ v = 1) ∨ ((p = 0 → ¬ a7 0 = a2 0) ∧ v = -1))) ∨ (a1 0 = 1 ∧ ((p = 0 ∧ v = 1) ∨ (¬ p = 0 ∧ v = -1))) ∨ (a1 0 = 2 ∧ v = 0)) ∨ (a1 0 = 3 ∧ ∃ A : Nat, A < 4 ∧ a2 0 = nI A ∧ ((a6 A = -1 ∧ v = -1) ∨ (a6 A = 0 ∧ v = -2)))
theorem pg_d {p : Nat} (hp : p ≤ 1) : nI p / 21 = 0 ∧ nI p - nI p / 21 * 21 = nI p ∧ 21 * 0 + nI p = nI p := by
  rcases (show p = 0 ∨ p = 1 by omega) with rfl | rfl
  · exact ⟨by decide, by decide, by decide⟩
  · exact ⟨by decide, by decide, by decide⟩
theorem pg_fin {post : St2 → Prop} {p : Nat} {v : Int32} (hp : p ≤ 1) (h9 : a9 0 = nI p) (H : post (t, nd, ss, ln, 0, a1, a2, a3, a4, a5, a6, a7, upd a8 p v, a9, a10, a11)) : wpX_finish post (t, nd, ss, ln, dp, a1, a2, a3, a4, a5, a6, a7, a8, a9, a10, a11) 0 v := by
  refine ⟨pk_in 0 840 (by decide), pk_in p 840 (by omega) h9, nm_r (e' := upd a8 p v) ?_ H⟩
  rw [sb_cl0, h9, nI_clamp (by omega)]
theorem pg_sin {post : Int32 → Prop} {p : Nat} {v o l : Int32} (hp : p ≤ 1) (h : (o = 0 ∧ ((p = 0 ∧ a7 0 = l ∧ v = 1) ∨ ((p = 0 → ¬ a7 0 = l) ∧ v = -1))) ∨ (o = 1 ∧ ((p = 0 ∧ v = 1) ∨ (¬ p = 0 ∧ v = -1))) ∨ (o = 2 ∧ v = 0)) (H : post v) : wpX_single post (t, nd, ss, 1, dp, a1, a2, a3, a4, a5, a6, a7, a8, a9, a10, a11) o l (nI p) := by
  rcases h with ⟨rfl, h⟩ | ⟨rfl, h⟩ | ⟨rfl, rfl⟩
  · rcases h with ⟨rfl, e, rfl⟩ | ⟨e, rfl⟩
    · exact br_f (by decide) (br_f (by decide) (br_f (by decide) ⟨pk_in 0 20 (by decide), br_t e H⟩))
    · rcases (show p = 0 ∨ p = 1 by omega) with rfl | rfl
      · exact br_f (by decide) (br_f (by decide) (br_f (by decide) ⟨pk_in 0 20 (by decide), br_f (e rfl) H⟩))
      · exact br_f (by decide) (br_t (by decide) H)
  · rcases h with ⟨rfl, rfl⟩ | ⟨e, rfl⟩
    · exact br_f (by decide) (br_f (by decide) (br_t rfl H))
    · rcases (show p = 0 ∨ p = 1 by omega) with rfl | rfl
      · exact absurd rfl e
      · exact br_f (by decide) (br_t (by decide) H)
  · exact br_t rfl H
/-- need, of the node itself: it waits, so all that waits is stuck -/
theorem pg_need {post : St2 → Prop} {p : Nat} (hp : p ≤ 1) (h9 : a9 0 = nI p) (h8 : a8 p = -4) (H : post (t, nd, ss, ln, 0, a1, a2, a3, a4, a5, a6, a7, upd a8 p (-2), a9, upd a10 0 1, a11)) : wpX_need post (t, nd, ss, ln, 1, a1, a2, a3, a4, a5, a6, a7, a8, a9, a10, a11) 0 0 (nI p) 1 := by
  refine ⟨pk_in 0 840 (by decide), nm_e ⟨pk_in p 840 (by omega) (pg_d hp).2.2, nm_r (e' := -4) ?_ (br_f (by decide) (br_t rfl ⟨2, ?_⟩))⟩⟩
  · rw [(pg_d hp).2.2, nI_clamp (by omega), h8]
  · refine br_f (by decide) ⟨pk_in 0 840 (by decide), pk_in p 840 (by omega) h9, nm_r (e' := upd a8 p (-2)) ?_ (nm_r (show (0 : Int32) + 1 = 1 from by decide) (br_t (by decide) H))⟩
    rw [sb_cl0, h9, nI_clamp (by omega)]
theorem pg_beg {post : St2 → Prop} {p A : Nat} {v : Int32} (hp : p ≤ 1) (h9 : a9 0 = nI p) (h8 : a8 p = -4) (hA : A < 4) (h2 : a2 0 = nI A) (hv : (a6 A = -1 ∧ v = -1) ∨ (a6 A = 0 ∧ v = -2)) (H : ∀ s : Nat → Int32, post (t, nd, ss, ln, 0, a1, a2, a3, a4, a5, a6, a7, upd a8 p v, a9, s, a11)) : wpX_begin post (t, nd, ss, ln, 1, a1, a2, a3, a4, a5, a6, a7, a8, a9, a10, a11) 0 0 (nI p) 3 := by
  refine br_t rfl ⟨pk_in 0 40 (by decide), pk_in A 4 hA h2, ?_⟩
  have e : a6 (a2 (0 : Int32).toNatClampNeg).toNatClampNeg = a6 A := by rw [sb_cl0, h2, nI_clamp (by omega)]
  rw [e]
  rcases hv with ⟨h6, rfl⟩ | ⟨h6, rfl⟩
  · rw [h6]
    exact br_f (by decide) (pg_fin hp h9 (H a10))
  · rw [h6]
    exact br_t (by decide) (pg_need hp h9 h8 (H _))
theorem pg_goOn {post : St2 → Prop} {p : Nat} {v x : Int32} (hx : x = 0) (hp : p ≤ 1) (hv : pg_V a1 a2 a6 a7 p v) (h9 : a9 0 = nI p) (hs : a10 0 = 0) (h8 : a8 p = -4) (H : ∀ s : Nat → Int32, post (t, nd, ss, 1, 0, a1, a2, a3, a4, a5, a6, a7, upd a8 p v, a9, s, a11)) : wpX_goOn post (t, nd, ss, 1, 1, a1, a2, a3, a4, a5, a6, a7, a8, a9, a10, a11) x := by
  subst hx
  refine ⟨pk_in 0 840 (by decide), by decide, nm_r (e' := 0) ?_ ⟨pk_in 0 840 (by decide), by decide, nm_r (e' := nI p) ?_ ⟨pk_in 0 40 (by decide), nm_r (e' := a1 0) ?_ ?_⟩⟩⟩
  · rw [sb_cl0, h9]
    exact (pg_d hp).1
  · rw [sb_cl0, h9]
    exact (pg_d hp).2.1
  · rw [sb_cl0]
  · rcases hv with hv | ⟨h1, A, hA, h2, hv⟩
    · refine br_f ?_ ⟨pk_in 0 40 (by decide), pg_sin hp hv (pg_fin hp h9 (H a10))⟩
      rcases hv with ⟨e, _⟩ | ⟨e, _⟩ | ⟨e, _⟩
      · rw [e]; decide
      · rw [e]; decide
      · rw [e]; decide
    · rw [h1]
      exact br_t (by decide) ⟨pk_in 0 840 (by decide), br_t hs (pg_beg hp h9 h8 hA h2 hv H)⟩
theorem pg_work {post : St2 → Prop} {p : Nat} {v x : Int32} (hx : x = 0) (hp : p ≤ 1) (hv : pg_V a1 a2 a6 a7 p v) (h8 : a8 p = -3 ∨ a8 p = v) (H : ∀ (d : Int32) (o w s : Nat → Int32), o p = v → (∀ q, q ≠ p → o q = a8 q) → post (t, nd, ss, 1, d, a1, a2, a3, a4, a5, a6, a7, o, w, s, a11)) : wpX_workOut post (t, nd, ss, 1, dp, a1, a2, a3, a4, a5, a6, a7, a8, a9, a10, a11) x (nI p) := by
  subst hx
  have e21 := (pg_d hp).2.2
  have e : a8 (21 * 0 + nI p).toNatClampNeg = a8 p := by rw [e21, nI_clamp (by omega)]
  refine ⟨pk_in p 840 (by omega) e21, ?_⟩
  by_cases h : a8 p = -3
  · refine br_t (e.trans h) ?_
    refine nm_r e21 ⟨pk_in p 840 (by omega), nm_r (e' := upd a8 p (-4)) (by rw [nI_clamp (by omega)]) ⟨pk_in 0 840 (by decide), nm_r (e' := upd a9 0 (nI p)) (by rw [sb_cl0]) ⟨pk_in 0 840 (by decide), nm_r (e' := upd a10 0 0) (by rw [sb_cl0]) (nm_r (show (0 : Int32) + 1 = 1 from by decide) ⟨2, ?_⟩)⟩⟩⟩
    refine br_f (by decide) (br_f (by decide) (pg_goOn (by decide) hp hv pk_us pk_us pk_us (fun s => nm_e (br_f (by decide) (br_t (by decide) (H 0 _ _ s pk_us (fun q hq => ?_)))))))
    rw [pk_un hq, pk_un hq]
  · exact br_f (fun z => h (e.symm.trans z)) ⟨1, br_f (by decide) (br_t (by decide) (H 0 a8 a9 a10 (h8.resolve_left h) (fun _ _ => rfl)))⟩
theorem pg_mat {post : Int32 → St2 → Prop} {R p : Nat} {v : Int32} (hR : R < 4) (hp : p ≤ 1) (h6 : a6 R = 0) (hv : pg_V a1 a2 a6 a7 p v) (h8 : a8 p = -3 ∨ a8 p = v) (H : ∀ (d : Int32) (o w s : Nat → Int32), o p = v → (∀ q, q ≠ p → o q = a8 q) → post v (t, nd, ss, 1, d, a1, a2, a3, a4, a5, a6, a7, o, w, s, a11)) : wpX_match post (t, nd, ss, 1, dp, a1, a2, a3, a4, a5, a6, a7, a8, a9, a10, a11) (nI R) (nI p) := by
  have e : a6 (nI R).toNatClampNeg = 0 := by rw [nI_clamp (by omega), h6]
  have e21 : 21 * a6 (nI R).toNatClampNeg + nI p = nI p := by rw [e]; exact (pg_d hp).2.2
  refine br_f (nI_pos (by omega)) (pk_lt 3 R (fun z => absurd z (by omega)) (fun _ => br_f (nI_pos (by omega)) (pk_le p 1 (fun _ => ⟨pk_in R 4 hR, br_t (by rw [e]; decide) ⟨pk_in R 4 hR, pg_work e hp hv h8 (fun d o w s h1 h2 => ⟨pk_in R 4 hR, pk_in p 840 (by omega) e21, ?_⟩)⟩⟩) (fun z => absurd z (by omega)))))
  have e3 : o (21 * a6 (nI R).toNatClampNeg + nI p).toNatClampNeg = v := by rw [e21, nI_clamp (by omega), h1]
  exact ek_v (P := fun r => post r (t, nd, ss, 1, d, a1, a2, a3, a4, a5, a6, a7, o, w, s, a11)) e3 (H d o w s h1 h2)
/-- the rule isn't there: it fails -/
theorem pg_matF {post : Int32 → St2 → Prop} {R p : Nat} (hR : R < 4) (hp : p ≤ 1) (h6 : a6 R = -1) (H : post (-1) (t, nd, ss, 1, dp, a1, a2, a3, a4, a5, a6, a7, a8, a9, a10, a11)) : wpX_match post (t, nd, ss, 1, dp, a1, a2, a3, a4, a5, a6, a7, a8, a9, a10, a11) (nI R) (nI p) := by
  have e : a6 (nI R).toNatClampNeg = -1 := by rw [nI_clamp (by omega), h6]
  exact br_f (nI_pos (by omega)) (pk_lt 3 R (fun z => absurd z (by omega)) (fun _ => br_f (nI_pos (by omega)) (pk_le p 1 (fun _ => ⟨pk_in R 4 hR, br_f (by rw [e]; decide) H⟩) (fun z => absurd z (by omega)))))
/-- the picture: rule R answers v0 at place 0 and v1 at place 1 -/
def pg_M (R : Nat) (v0 v1 : Int32) (a1 a2 a6 a7 a8 : Nat → Int32) : Prop :=
  R < 4 ∧ ((a6 R = -1 ∧ v0 = -1 ∧ v1 = -1) ∨ (a6 R = 0 ∧ pg_V a1 a2 a6 a7 0 v0 ∧ pg_V a1 a2 a6 a7 1 v1 ∧ (a8 0 = -3 ∨ a8 0 = v0) ∧ (a8 1 = -3 ∨ a8 1 = v1)))
theorem pg_m0 {post : Int32 → St2 → Prop} {R : Nat} {v0 v1 : Int32} (k : pg_M R v0 v1 a1 a2 a6 a7 a8) (H : ∀ (d : Int32) (o w s : Nat → Int32), pg_M R v0 v1 a1 a2 a6 a7 o → post v0 (t, nd, ss, 1, d, a1, a2, a3, a4, a5, a6, a7, o, w, s, a11)) : wpX_match post (t, nd, ss, 1, dp, a1, a2, a3, a4, a5, a6, a7, a8, a9, a10, a11) (nI R) 0 := by
  have k' := k
  obtain ⟨hR, k⟩ := k
  rcases k with ⟨h6, e0, _⟩ | ⟨h6, V0, V1, h0, h1⟩
  · exact pg_matF (p := 0) hR (by decide) h6 (ek_v (P := fun r => post r (t, nd, ss, 1, dp, a1, a2, a3, a4, a5, a6, a7, a8, a9, a10, a11)) e0.symm (H dp a8 a9 a10 k'))
  · exact pg_mat (p := 0) hR (by decide) h6 V0 h0 (fun d o w s g1 g2 => H d o w s ⟨hR, Or.inr ⟨h6, V0, V1, Or.inr g1, by rw [g2 1 (by decide)]; exact h1⟩⟩)
theorem pg_m1 {post : Int32 → St2 → Prop} {R : Nat} {v0 v1 : Int32} (k : pg_M R v0 v1 a1 a2 a6 a7 a8) (H : ∀ (d : Int32) (o w s : Nat → Int32), pg_M R v0 v1 a1 a2 a6 a7 o → post v1 (t, nd, ss, 1, d, a1, a2, a3, a4, a5, a6, a7, o, w, s, a11)) : wpX_match post (t, nd, ss, 1, dp, a1, a2, a3, a4, a5, a6, a7, a8, a9, a10, a11) (nI R) 1 := by
  have k' := k
  obtain ⟨hR, k⟩ := k
  rcases k with ⟨h6, _, e1⟩ | ⟨h6, V0, V1, h0, h1⟩
  · exact pg_matF (p := 1) hR (by decide) h6 (ek_v (P := fun r => post r (t, nd, ss, 1, dp, a1, a2, a3, a4, a5, a6, a7, a8, a9, a10, a11)) e1.symm (H dp a8 a9 a10 k'))
  · exact pg_mat (p := 1) hR (by decide) h6 V1 h1 (fun d o w s g1 g2 => H d o w s ⟨hR, Or.inr ⟨h6, V0, V1, by rw [g2 0 (by decide)]; exact h0, Or.inr g1⟩⟩)
end
end
section
section
variable {t nd ss ln dp : Int32} {a1 a2 a3 a4 a5 a6 a7 a8 a9 a10 a11 : Nat → Int32}
theorem pg_ng {x : Int32} (h : x < 0) : ¬ 0 ≤ x ∧ x ≤ 0 ∧ x ≤ 1 ∧ ¬ x = 0 ∧ ¬ x = 1 ∧ ¬ 1 < x := by
  have e0 : (0 : Int32).toInt = 0 := by decide
  have e1 : (1 : Int32).toInt = 1 := by decide
  refine ⟨?_, ?_, ?_, fun e => absurd (e ▸ h) (by decide), fun e => absurd (e ▸ h) (by decide), ?_⟩
  all_goals
    simp only [Int32.lt_iff_toInt_lt, Int32.le_iff_toInt_le, e0, e1] at *
    omega
theorem pg_bg {x : Int32} (h : 1 < x) : ¬ x < 0 ∧ 0 ≤ x ∧ ¬ x ≤ 0 ∧ ¬ x ≤ 1 ∧ ¬ x = 0 ∧ ¬ x = 1 := by
  have e0 : (0 : Int32).toInt = 0 := by decide
  have e1 : (1 : Int32).toInt = 1 := by decide
  refine ⟨?_, ?_, ?_, ?_, fun e => absurd (e ▸ h) (by decide), fun e => absurd (e ▸ h) (by decide)⟩
  all_goals
    simp only [Int32.lt_iff_toInt_lt, Int32.le_iff_toInt_le, e0, e1] at *
    omega
theorem pg_4 (x : Int32) : x < 0 ∨ x = 0 ∨ x = 1 ∨ 1 < x := by
  rcases pk_ix x (n := 2) (by decide) with h | h | ⟨j, hj, e⟩
  · exact Or.inl h
  · refine Or.inr (Or.inr (Or.inr ?_))
    have e1 : (1 : Int32).toInt = 1 := by decide
    have e2 : (nI 2).toInt = 2 := by decide
    rw [Int32.le_iff_toInt_le, e2] at h
    rw [Int32.lt_iff_toInt_lt, e1]
    omega
  · rcases (show j = 0 ∨ j = 1 by omega) with rfl | rfl
    · exact Or.inr (Or.inl e)
    · exact Or.inr (Or.inr (Or.inl e))
def pg_b (v : Int32) : Int32 := if v < 0 then 0 else 1
def pg_c (v : Int32) : Int32 := if v = -2 then 1 else 0
def pg_w (v : Int32) : Int32 := if v = 1 then 1 else 0
def pg_g1 (v1 : Int32) : Int32 := if v1 < 0 then -1 else 1
def pg_g0 (v0 v1 : Int32) : Int32 := if v0 < 0 then pg_g1 v1 else 0
def pg_F (v0 v1 x : Int32) : Int32 := if 1 < x then -1 else if x = 1 then pg_g1 v1 else pg_g0 v0 v1
def pg_Q (v0 v1 x r : Int32) : Prop := (x < 0 ∧ r = -3) ∨ (x = 0 ∧ r = v0) ∨ (x = 1 ∧ r = v1) ∨ (1 < x ∧ r = -3)
theorem pg_ms1 {post : Int32 → St2 → Prop} {R : Nat} {v0 v1 x2 : Int32} (k : pg_M R v0 v1 a1 a2 a6 a7 a8) (H : ∀ (d : Int32) (o w s : Nat → Int32), pg_M R v0 v1 a1 a2 a6 a7 o → post (x2 + pg_b v1) (t, nd, ss, 1, d, a1, a2, a3, a4, a5, a6, a7, o, w, s, a11)) : wX_matches_16 post (nI R) 2 x2 1 t nd ss 1 dp a1 a2 a3 a4 a5 a6 a7 a8 a9 a10 a11 :=
  br_f (by decide) (pg_m1 k (fun d o w s k' => br_c
    (fun h => nm_r (e' := x2 + pg_b v1) (by rw [show pg_b v1 = 0 from if_pos h]) (nm_r (show (1 : Int32) + 1 = 2 from by decide) (br_t (by decide) (H d o w s k'))))
    (fun h => nm_r (e' := x2 + pg_b v1) (by rw [show pg_b v1 = 1 from if_neg h]) (nm_r (show (1 : Int32) + 1 = 2 from by decide) (br_t (by decide) (H d o w s k'))))))
theorem pg_matches {post : Int32 → St2 → Prop} {R : Nat} {v0 v1 : Int32} (k : pg_M R v0 v1 a1 a2 a6 a7 a8) (H : ∀ (d : Int32) (o w s : Nat → Int32), pg_M R v0 v1 a1 a2 a6 a7 o → post (0 + pg_b v0 + pg_b v1) (t, nd, ss, 1, d, a1, a2, a3, a4, a5, a6, a7, o, w, s, a11)) : wpX_matches post (t, nd, ss, 1, dp, a1, a2, a3, a4, a5, a6, a7, a8, a9, a10, a11) (nI R) := by
  have hR : R < 4 := k.1
  refine br_f (nI_pos (by omega)) (pk_le R 3 (fun _ => ⟨3, ?_⟩) (fun z => absurd z (by omega)))
  exact br_f (by decide) (pg_m0 k (fun d o w s k' => br_c
    (fun h => nm_r (e' := 0 + pg_b v0) (by rw [show pg_b v0 = 0 from if_pos h]) (nm_r (show (0 : Int32) + 1 = 1 from by decide) (pg_ms1 k' H)))
    (fun h => nm_r (e' := 0 + pg_b v0) (by rw [show pg_b v0 = 1 from if_neg h]) (nm_r (show (0 : Int32) + 1 = 1 from by decide) (pg_ms1 k' H)))))
theorem pg_st1 {post : Int32 → St2 → Prop} {R : Nat} {v0 v1 x2 : Int32} (k : pg_M R v0 v1 a1 a2 a6 a7 a8) (H : ∀ (d : Int32) (o w s : Nat → Int32), pg_M R v0 v1 a1 a2 a6 a7 o → post (x2 + pg_c v1) (t, nd, ss, 1, d, a1, a2, a3, a4, a5, a6, a7, o, w, s, a11)) : wX_stuck_16 post (nI R) 2 x2 1 t nd ss 1 dp a1 a2 a3 a4 a5 a6 a7 a8 a9 a10 a11 :=
  br_f (by decide) (pg_m1 k (fun d o w s k' => br_c
    (fun h => nm_r (e' := x2 + pg_c v1) (by rw [show pg_c v1 = 1 from if_pos h]) (nm_r (show (1 : Int32) + 1 = 2 from by decide) (br_t (by decide) (H d o w s k'))))
    (fun h => nm_r (e' := x2 + pg_c v1) (by rw [show pg_c v1 = 0 from if_neg h]) (nm_r (show (1 : Int32) + 1 = 2 from by decide) (br_t (by decide) (H d o w s k'))))))
theorem pg_stuck {post : Int32 → St2 → Prop} {R : Nat} {v0 v1 : Int32} (k : pg_M R v0 v1 a1 a2 a6 a7 a8) (H : ∀ (d : Int32) (o w s : Nat → Int32), pg_M R v0 v1 a1 a2 a6 a7 o → post (0 + pg_c v0 + pg_c v1) (t, nd, ss, 1, d, a1, a2, a3, a4, a5, a6, a7, o, w, s, a11)) : wpX_stuck post (t, nd, ss, 1, dp, a1, a2, a3, a4, a5, a6, a7, a8, a9, a10, a11) (nI R) := by
  have hR : R < 4 := k.1
  refine br_f (nI_pos (by omega)) (pk_le R 3 (fun _ => ⟨3, ?_⟩) (fun z => absurd z (by omega)))
  exact br_f (by decide) (pg_m0 k (fun d o w s k' => br_c
    (fun h => nm_r (e' := 0 + pg_c v0) (by rw [show pg_c v0 = 1 from if_pos h]) (nm_r (show (0 : Int32) + 1 = 1 from by decide) (pg_st1 k' H)))
    (fun h => nm_r (e' := 0 + pg_c v0) (by rw [show pg_c v0 = 0 from if_neg h]) (nm_r (show (0 : Int32) + 1 = 1 from by decide) (pg_st1 k' H)))))
theorem pg_whole {post : Int32 → St2 → Prop} {R : Nat} {v0 v1 : Int32} (k : pg_M R v0 v1 a1 a2 a6 a7 a8) (H : ∀ (d : Int32) (o w s : Nat → Int32), pg_M R v0 v1 a1 a2 a6 a7 o → post (pg_w v0) (t, nd, ss, 1, d, a1, a2, a3, a4, a5, a6, a7, o, w, s, a11)) : wpX_whole post (t, nd, ss, 1, dp, a1, a2, a3, a4, a5, a6, a7, a8, a9, a10, a11) (nI R) := by
  have hR : R < 4 := k.1
  refine br_f (nI_pos (by omega)) (pk_le R 3 (fun _ => ?_) (fun z => absurd z (by omega)))
  exact pg_m0 k (fun d o w s k' => br_c
    (fun h => ek_v (P := fun r => post r (t, nd, ss, 1, d, a1, a2, a3, a4, a5, a6, a7, o, w, s, a11)) (show 1 = pg_w v0 from (if_pos h).symm) (H d o w s k'))
    (fun h => ek_v (P := fun r => post r (t, nd, ss, 1, d, a1, a2, a3, a4, a5, a6, a7, o, w, s, a11)) (show 0 = pg_w v0 from (if_neg h).symm) (H d o w s k')))
theorem pg_f1 {post : Int32 → St2 → Prop} {R : Nat} {v0 v1 : Int32} (k : pg_M R v0 v1 a1 a2 a6 a7 a8) (H : ∀ (d : Int32) (o w s : Nat → Int32), pg_M R v0 v1 a1 a2 a6 a7 o → post (pg_g1 v1) (t, nd, ss, 1, d, a1, a2, a3, a4, a5, a6, a7, o, w, s, a11)) : wX_find_22 post (nI R) 2 1 t nd ss 1 dp a1 a2 a3 a4 a5 a6 a7 a8 a9 a10 a11 :=
  br_f (by decide) (pg_m1 k (fun d o w s k' => br_c
    (fun h => nm_r (show (1 : Int32) + 1 = 2 from by decide) (br_t (by decide) (ek_v (P := fun r => post r (t, nd, ss, 1, d, a1, a2, a3, a4, a5, a6, a7, o, w, s, a11)) (show -1 = pg_g1 v1 from (if_pos h).symm) (H d o w s k'))))
    (fun h => ek_v (P := fun r => post r (t, nd, ss, 1, d, a1, a2, a3, a4, a5, a6, a7, o, w, s, a11)) (show 1 = pg_g1 v1 from (if_neg h).symm) (H d o w s k'))))
theorem pg_f0 {post : Int32 → St2 → Prop} {R : Nat} {v0 v1 : Int32} (k : pg_M R v0 v1 a1 a2 a6 a7 a8) (H : ∀ (d : Int32) (o w s : Nat → Int32), pg_M R v0 v1 a1 a2 a6 a7 o → post (pg_g0 v0 v1) (t, nd, ss, 1, d, a1, a2, a3, a4, a5, a6, a7, o, w, s, a11)) : wX_find_22 post (nI R) 3 0 t nd ss 1 dp a1 a2 a3 a4 a5 a6 a7 a8 a9 a10 a11 :=
  br_f (by decide) (pg_m0 k (fun d o w s k' => br_c
    (fun h => nm_r (show (0 : Int32) + 1 = 1 from by decide) (pg_f1 k' (fun d o w s k => ek_v (P := fun r => post r (t, nd, ss, 1, d, a1, a2, a3, a4, a5, a6, a7, o, w, s, a11)) (show pg_g1 v1 = pg_g0 v0 v1 from (if_pos h).symm) (H d o w s k))))
    (fun h => ek_v (P := fun r => post r (t, nd, ss, 1, d, a1, a2, a3, a4, a5, a6, a7, o, w, s, a11)) (show 0 = pg_g0 v0 v1 from (if_neg h).symm) (H d o w s k'))))
theorem pg_find {post : Int32 → St2 → Prop} {R : Nat} {v0 v1 x : Int32} (k : pg_M R v0 v1 a1 a2 a6 a7 a8) (H : ∀ (d : Int32) (o w s : Nat → Int32), pg_M R v0 v1 a1 a2 a6 a7 o → post (pg_F v0 v1 x) (t, nd, ss, 1, d, a1, a2, a3, a4, a5, a6, a7, o, w, s, a11)) : wpX_find post (t, nd, ss, 1, dp, a1, a2, a3, a4, a5, a6, a7, a8, a9, a10, a11) (nI R) x := by
  have hR : R < 4 := k.1
  refine br_f (nI_pos (by omega)) (pk_le R 3 (fun _ => ?_) (fun z => absurd z (by omega)))
  rcases pg_4 x with h | rfl | rfl | h
  · have e : pg_F v0 v1 x = pg_g0 v0 v1 := (if_neg (pg_ng h).2.2.2.2.2).trans (if_neg (pg_ng h).2.2.2.2.1)
    rw [e] at H
    exact br_f (pg_ng h).1 ⟨3, pg_f0 k H⟩
  · exact br_t (by decide) ⟨3, pg_f0 k H⟩
  · exact br_t (by decide) ⟨2, pg_f1 k H⟩
  · have e : pg_F v0 v1 x = -1 := if_pos h
    rw [e] at H
    exact br_t (pg_bg h).2.1 ⟨1, br_t h (H dp a8 a9 a10 k)⟩
theorem pg_mx {post : Int32 → St2 → Prop} {R : Nat} {v0 v1 x : Int32} (k : pg_M R v0 v1 a1 a2 a6 a7 a8) (H : ∀ (r d : Int32) (o w s : Nat → Int32), pg_M R v0 v1 a1 a2 a6 a7 o → pg_Q v0 v1 x r → post r (t, nd, ss, 1, d, a1, a2, a3, a4, a5, a6, a7, o, w, s, a11)) : wpX_match post (t, nd, ss, 1, dp, a1, a2, a3, a4, a5, a6, a7, a8, a9, a10, a11) (nI R) x := by
  have hR : R < 4 := k.1
  rcases pg_4 x with h | rfl | rfl | h
  · exact br_f (nI_pos (by omega)) (pk_lt 3 R (fun z => absurd z (by omega)) (fun _ => br_t h (H (-3) dp a8 a9 a10 k (Or.inl ⟨h, rfl⟩))))
  · exact pg_m0 k (fun d o w s k' => H v0 d o w s k' (Or.inr (Or.inl ⟨rfl, rfl⟩)))
  · exact pg_m1 k (fun d o w s k' => H v1 d o w s k' (Or.inr (Or.inr (Or.inl ⟨rfl, rfl⟩))))
  · exact br_f (nI_pos (by omega)) (pk_lt 3 R (fun z => absurd z (by omega)) (fun _ => br_f (pg_bg h).1 (br_f (pg_bg h).2.2.2.1 (H (-3) dp a8 a9 a10 k (Or.inr (Or.inr (Or.inr ⟨h, rfl⟩)))))))
/-- a rule's number out of range -/
theorem pg_mr {post : Int32 → St2 → Prop} {x y : Int32} (hx : x < 0 ∨ 3 < x) (H : post (-3) (t, nd, ss, ln, dp, a1, a2, a3, a4, a5, a6, a7, a8, a9, a10, a11)) : wpX_match post (t, nd, ss, ln, dp, a1, a2, a3, a4, a5, a6, a7, a8, a9, a10, a11) x y :=
  br_c (fun _ => H) (fun h => br_t (hx.resolve_left h) H)
end
end
section
section
variable {t nd ss ln dp : Int32} {a1 a2 a3 a4 a5 a6 a7 a8 a9 a10 a11 : Nat → Int32}
variable {mc ms kc ks R : Nat} {x0 x1 x2 x3 x4 x6 x7 x8 x12 z0 z1 v0 v1 : Int32}
/-- the kinds of script: refused; a letter or any that matches; one that fails; nothing; a call of itself -/
def pg_K (x0 x6 x8 v0 v1 : Int32) : Prop :=
  (x6 = 0 ∧ x8 = 0 ∧ ¬ x0 = 2 ∧ v0 = -1 ∧ v1 = -1) ∨ (x6 = 1 ∧ x8 = 0 ∧ ¬ x0 = 2 ∧ v0 = 1 ∧ v1 = -1) ∨ (x6 = 1 ∧ x8 = 0 ∧ ¬ x0 = 2 ∧ v0 = -1 ∧ v1 = -1) ∨ (x6 = 1 ∧ x8 = 0 ∧ x0 = 2 ∧ v0 = 0 ∧ v1 = 0) ∨ (x6 = 1 ∧ x8 = 1 ∧ ¬ x0 = 2 ∧ v0 = -2 ∧ v1 = -2)
theorem pg_406 (h : z1 = z0) : wL_lawOf_406 (fun r _ => r = 1) mc ms z0 z1 kc ks := br_t h rfl
/-- the last answer: find -/
theorem pg_359 (K : pg_K x0 x6 x8 v0 v1) (k : pg_M R v0 v1 a1 a2 a6 a7 a8) (h12 : x12 = 0 + pg_b v0 + pg_b v1) (h7 : x7 = nI R) (hz : z1 = z0) : wL_lawOf_359 (fun r _ => r = 1) mc ms x0 x4 x7 x12 z0 z1 kc ks t nd ss 1 dp a1 a2 a3 a4 a5 a6 a7 a8 a9 a10 a11 := by
  subst h7
  refine br_t hz (pg_find k (fun d o w s k' => ?_))
  subst h12
  have hN : v0 < 0 → v1 < 0 → pg_F v0 v1 x4 = -1 := by
    intro h0 h1
    have e1 : pg_g1 v1 = -1 := if_pos h1
    have e0 : pg_g0 v0 v1 = -1 := (if_pos h0).trans e1
    unfold pg_F
    rw [e1, e0]
    split
    · rfl
    · split
      · rfl
      · rfl
  rcases K with ⟨_, _, n2, rfl, rfl⟩ | ⟨_, _, n2, rfl, rfl⟩ | ⟨_, _, n2, rfl, rfl⟩ | ⟨_, _, n2, rfl, rfl⟩ | ⟨_, _, n2, rfl, rfl⟩
  · exact br_t (by decide) (pg_406 (hN (by decide) (by decide)))
  · refine br_f (by decide) (br_f n2 ?_)
    rcases pg_4 x4 with h | rfl | rfl | h
    · exact br_t (pg_ng h).2.1 (br_f (pg_ng h).1 (pg_406 ((if_neg (pg_ng h).2.2.2.2.2).trans (if_neg (pg_ng h).2.2.2.2.1))))
    · exact br_t (by decide) (br_t (by decide) (pg_406 (by decide)))
    · exact br_f (by decide) (pg_406 (by decide))
    · exact br_f (pg_bg h).2.2.1 (pg_406 (if_pos h))
  · exact br_t (by decide) (pg_406 (hN (by decide) (by decide)))
  · refine br_f (by decide) (br_t n2 ?_)
    rcases pg_4 x4 with h | rfl | rfl | h
    · exact br_t (pg_ng h).2.2.1 (br_f (pg_ng h).1 (pg_406 ((if_neg (pg_ng h).2.2.2.2.2).trans (if_neg (pg_ng h).2.2.2.2.1))))
    · exact br_t (by decide) (br_t (by decide) (pg_406 (by decide)))
    · exact br_t (by decide) (br_t (by decide) (pg_406 (by decide)))
    · exact br_f (pg_bg h).2.2.2.1 (pg_406 (if_pos h))
  · exact br_t (by decide) (pg_406 (hN (by decide) (by decide)))
/-- whole -/
theorem pg_333 (K : pg_K x0 x6 x8 v0 v1) (k : pg_M R v0 v1 a1 a2 a6 a7 a8) (h12 : x12 = 0 + pg_b v0 + pg_b v1) (h7 : x7 = nI R) (hz : z1 = z0) : wL_lawOf_333 (fun r _ => r = 1) mc ms x0 x4 x6 x7 v0 x12 z0 z1 kc ks t nd ss 1 dp a1 a2 a3 a4 a5 a6 a7 a8 a9 a10 a11 := by
  have h7' := h7
  subst h7
  refine br_t hz (pg_whole k (fun d o w s k' => br_c (fun h => ?_) (fun h => br_c (fun h1 => ?_) (fun h1 => ?_))))
  · refine pg_359 K k' h12 rfl ?_
    rcases K with ⟨_, _, _, e, _⟩ | ⟨e, _⟩ | ⟨e, _⟩ | ⟨e, _⟩ | ⟨e, _⟩
    · rw [e]; decide
    all_goals exact absurd (e.symm.trans h) (by decide)
  · exact pg_359 K k' h12 rfl (if_pos h1)
  · exact pg_359 K k' h12 rfl (if_neg h1)
/-- matches, then stuck -/
theorem pg_297 (K : pg_K x0 x6 x8 v0 v1) (k : pg_M R v0 v1 a1 a2 a6 a7 a8) (hz : z0 = 0 + pg_b v0 + pg_b v1) (h7 : x7 = nI R) : wL_lawOf_297 (fun r _ => r = 1) mc ms x0 x4 x6 x7 x8 v0 z0 kc ks t nd ss 1 dp a1 a2 a3 a4 a5 a6 a7 a8 a9 a10 a11 := by
  subst h7
  refine pg_matches k (fun d o w s k' => br_t hz.symm (pg_stuck k' (fun d o w s k'' => br_c (fun h => ?_) (fun h => br_c (fun h1 => ?_) (fun h1 => ?_)))))
  · refine pg_333 K k'' hz rfl ?_
    rcases K with ⟨_, _, _, e, e'⟩ | ⟨e, _⟩ | ⟨e, _⟩ | ⟨e, _⟩ | ⟨e, _⟩
    · rw [e, e']; decide
    all_goals exact absurd (e.symm.trans h) (by decide)
  · refine pg_333 K k'' hz rfl ?_
    rcases K with ⟨_, _, _, e, e'⟩ | ⟨_, _, _, e, e'⟩ | ⟨_, _, _, e, e'⟩ | ⟨_, _, _, e, e'⟩ | ⟨_, e, _⟩
    · rw [e, e']; decide
    · rw [e, e']; decide
    · rw [e, e']; decide
    · rw [e, e']; decide
    · exact absurd (e.symm.trans h1) (by decide)
  · refine pg_333 K k'' hz rfl ?_
    rcases K with ⟨_, e, _⟩ | ⟨_, e, _⟩ | ⟨_, e, _⟩ | ⟨_, e, _⟩ | ⟨_, _, _, e, e'⟩
    · exact absurd e h1
    · exact absurd e h1
    · exact absurd e h1
    · exact absurd e h1
    · rw [e, e']; decide
/-- how many places match -/
theorem pg_262 (K : pg_K x0 x6 x8 v0 v1) (k : pg_M R v0 v1 a1 a2 a6 a7 a8) (h7 : x7 = nI R) (hz : z1 = z0) : wL_lawOf_262 (fun r _ => r = 1) mc ms x0 x4 x6 x7 x8 v0 v1 z0 z1 kc ks t nd ss 1 dp a1 a2 a3 a4 a5 a6 a7 a8 a9 a10 a11 := by
  refine br_t hz ?_
  rcases K with ⟨e6, e8, e0, rfl, rfl⟩ | ⟨e6, e8, e0, rfl, rfl⟩ | ⟨e6, e8, e0, rfl, rfl⟩ | ⟨e6, e8, e0, rfl, rfl⟩ | ⟨e6, e8, e0, rfl, rfl⟩
  · exact br_t e6 (pg_297 (Or.inl ⟨e6, e8, e0, rfl, rfl⟩) k (by decide) h7)
  · exact br_f (by rw [e6]; decide) (br_f (by decide) (br_t (by decide) (pg_297 (Or.inr (Or.inl ⟨e6, e8, e0, rfl, rfl⟩)) k (by decide) h7)))
  · exact br_f (by rw [e6]; decide) (br_t (by decide) (br_t (by decide) (pg_297 (Or.inr (Or.inr (Or.inl ⟨e6, e8, e0, rfl, rfl⟩))) k (by decide) h7)))
  · exact br_f (by rw [e6]; decide) (br_f (by decide) (br_f (by decide) (pg_297 (Or.inr (Or.inr (Or.inr (Or.inl ⟨e6, e8, e0, rfl, rfl⟩)))) k (by decide) h7)))
  · exact br_f (by rw [e6]; decide) (br_t (by decide) (br_t (by decide) (pg_297 (Or.inr (Or.inr (Or.inr (Or.inr ⟨e6, e8, e0, rfl, rfl⟩)))) k (by decide) h7)))
/-- the rule as it was given, at place 0 -/
theorem pg_227 (K : pg_K x0 x6 x8 v0 v1) (k : pg_M R v0 v1 a1 a2 a6 a7 a8) (h7 : x7 = nI R) (hr : x2 < 0 ∨ 3 < x2 ∨ (¬ x2 < 0 ∧ x2 ≤ 3 ∧ x2 = nI R)) (hz : z1 = z0) : wL_lawOf_227 (fun r _ => r = 1) mc ms x0 x2 x4 x6 x7 x8 v0 v1 z0 z1 kc ks t nd ss 1 dp a1 a2 a3 a4 a5 a6 a7 a8 a9 a10 a11 := by
  refine br_t hz ?_
  rcases hr with h | h | ⟨g1, g2, g3⟩
  · exact pg_mr (Or.inl h) (br_t h (pg_262 K k h7 rfl))
  · exact pg_mr (Or.inr h) (br_c (fun _ => pg_262 K k h7 rfl) (fun _ => br_f (Int32.not_le.mpr h) (pg_262 K k h7 rfl)))
  · rw [g3]
    refine pg_m0 k (fun d o w s k' => br_f (g3 ▸ g1) (br_t (g3 ▸ g2) (br_c (fun h => pg_262 K k' h7 ?_) (fun _ => pg_262 K k' h7 rfl))))
    rcases K with ⟨_, _, _, e, _⟩ | ⟨e, _⟩ | ⟨e, _⟩ | ⟨e, _⟩ | ⟨e, _⟩
    · exact e
    all_goals exact absurd (e.symm.trans h) (by decide)
/-- rule r at the place -/
theorem pg_198 (K : pg_K x0 x6 x8 v0 v1) (k : pg_M R v0 v1 a1 a2 a6 a7 a8) (h7 : x7 = nI R) (hr : x2 < 0 ∨ 3 < x2 ∨ (¬ x2 < 0 ∧ x2 ≤ 3 ∧ x2 = nI R)) (h0 : x4 = 0 → z0 = v0) (h1 : x4 = 1 → z0 = v1) : wL_lawOf_198 (fun r _ => r = 1) mc ms x0 x2 x4 x6 x7 x8 v0 v1 z0 kc ks t nd ss 1 dp a1 a2 a3 a4 a5 a6 a7 a8 a9 a10 a11 := by
  have h7' := h7
  subst h7
  refine pg_mx k (fun r d o w s k' q => br_c (fun h => ?_) (fun h => br_c (fun h' => ?_) (fun h' => ?_)))
  · refine pg_227 K k' h7' hr ?_
    rcases q with ⟨_, e⟩ | ⟨e, _⟩ | ⟨e, _⟩ | ⟨_, e⟩
    · exact e
    · exact absurd e (pg_ng h).2.2.2.1
    · exact absurd e (pg_ng h).2.2.2.2.1
    · exact e
  · refine pg_227 K k' h7' hr ?_
    rcases q with ⟨e, _⟩ | ⟨e, er⟩ | ⟨e, er⟩ | ⟨e, _⟩
    · exact absurd e h
    · rw [er, h0 e]
    · rw [er, h1 e]
    · exact absurd h' (pg_bg e).2.2.2.1
  · refine pg_227 K k' h7' hr ?_
    rcases q with ⟨_, e⟩ | ⟨e, _⟩ | ⟨e, _⟩ | ⟨_, e⟩
    · exact e
    · exact absurd (show x4 ≤ 1 by rw [e]; decide) h'
    · exact absurd (show x4 ≤ 1 by rw [e]; decide) h'
    · exact e
theorem pg_175 (K : pg_K x0 x6 x8 v0 v1) (k : pg_M R v0 v1 a1 a2 a6 a7 a8) (h7 : x7 = nI R) (hr : x2 < 0 ∨ 3 < x2 ∨ (¬ x2 < 0 ∧ x2 ≤ 3 ∧ x2 = nI R)) : wL_lawOf_175 (fun r _ => r = 1) mc ms x0 x2 x4 x6 x7 x8 v0 v1 kc ks t nd ss 1 dp a1 a2 a3 a4 a5 a6 a7 a8 a9 a10 a11 := by
  refine br_c (fun h => ?_) (fun _ => br_c (fun h => ?_) (fun h => ?_))
  · have e : v0 = -1 ∧ v1 = -1 := by
      rcases K with ⟨_, _, _, e⟩ | ⟨e, _⟩ | ⟨e, _⟩ | ⟨e, _⟩ | ⟨e, _⟩
      · exact e
      all_goals exact absurd (e.symm.trans h) (by decide)
    exact pg_198 K k h7 hr (fun _ => e.1.symm) (fun _ => e.2.symm)
  · exact pg_198 K k h7 hr (fun _ => rfl) (fun z => absurd (h.symm.trans z) (by decide))
  · exact pg_198 K k h7 hr (fun z => absurd z h) (fun _ => rfl)
theorem pg_153 (K : pg_K x0 x6 x8 v0 v1) (k : pg_M R v0 v1 a1 a2 a6 a7 a8) (h7 : x7 = nI R) (hr : x2 < 0 ∨ 3 < x2 ∨ (¬ x2 < 0 ∧ x2 ≤ 3 ∧ x2 = nI R)) : wL_lawOf_153 (fun r _ => r = 1) mc ms x0 x2 x4 x6 x7 x8 v0 kc ks t nd ss 1 dp a1 a2 a3 a4 a5 a6 a7 a8 a9 a10 a11 := by
  have K' := K
  rcases K with ⟨_, e8, e0, _, rfl⟩ | ⟨_, e8, e0, _, rfl⟩ | ⟨_, e8, e0, _, rfl⟩ | ⟨_, e8, e0, _, rfl⟩ | ⟨_, e8, e0, _, rfl⟩
  · exact br_f e0 (br_t e8 (pg_175 K' k h7 hr))
  · exact br_f e0 (br_t e8 (pg_175 K' k h7 hr))
  · exact br_f e0 (br_t e8 (pg_175 K' k h7 hr))
  · exact br_t e0 (pg_175 K' k h7 hr)
  · exact br_f e0 (br_f (by rw [e8]; decide) (pg_175 K' k h7 hr))
end
end
section
section
variable {t nd ss ln dp : Int32} {a1 a2 a3 a4 a5 a6 a7 a8 a9 a10 a11 : Nat → Int32}
variable {mc ms kc ks R c : Nat} {x0 x1 x2 x3 x4 x7 z0 : Int32}
theorem pg_no (h0 : x0 < 0 ∨ 3 < x0) (hc : c ≤ 3) : ¬ x0 = nI c := by
  intro e
  rw [e] at h0
  rcases h0 with h | h
  · exact nI_pos (by omega) h
  · exact nI_nlt (a := 3) (b := c) hc (by decide) h
theorem pg_rule (e7 : x2 &&& 3 = nI R) (hR : R < 4) : x2 < 0 ∨ 3 < x2 ∨ (¬ x2 < 0 ∧ x2 ≤ 3 ∧ x2 = nI R) := by
  by_cases h : x2 < 0
  · exact Or.inl h
  · by_cases h' : 3 < x2
    · exact Or.inr (Or.inl h')
    · have h3 : x2 ≤ 3 := Int32.not_lt.mp h'
      refine Or.inr (Or.inr ⟨h, h3, ?_⟩)
      obtain ⟨j, hj, e⟩ := nI_of2 (M := 3) (n := 3) (by decide) h h3
      rw [e, pk_andN (by omega) 2 (by decide), show j % 2 ^ 2 = j by omega] at e7
      exact e.trans e7
/-- the token is refused: no rule is there -/
theorem pg_63N (h0 : x0 < 0 ∨ 3 < x0) (hR : R < 4) (h6 : a6 R = -1) (e7 : x2 &&& 3 = nI R) : wL_lawOf_63 (fun r _ => r = 1) mc ms x0 x1 x2 x3 x4 0 (-1) (-1) kc ks t nd ss 0 dp a1 a2 a3 a4 a5 a6 a7 a8 a9 a10 a11 := by
  have n0 : ¬ x0 = 0 := pg_no (c := 0) h0 (by decide)
  have n1 : ¬ x0 = 1 := pg_no (c := 1) h0 (by decide)
  have n2 : ¬ x0 = 2 := pg_no (c := 2) h0 (by decide)
  have n3 : ¬ x0 = 3 := pg_no (c := 3) h0 (by decide)
  refine br_t rfl (pg_type (fun o ho => br_t rfl (nm_r e7 (br_f n3 ?_))))
  exact br_f n0 (br_f n1 (br_f n2 (br_t rfl (pg_153 (v0 := -1) (v1 := -1) (Or.inl ⟨rfl, rfl, n2, rfl, rfl⟩) ⟨hR, Or.inl ⟨h6, rfl, rfl⟩⟩ rfl (pg_rule e7 hR)))))
theorem pg_101 (hc : c ≤ 3) (hR : R < 4) (h1 : a1 0 = nI c) (h2 : a2 0 = x1 &&& 3) (h6 : a6 R = 0) (h6' : ∀ j, j < 4 → j ≠ R → a6 j = -1) (h7 : a7 0 = x3 &&& 3) (h8 : a8 0 = -3) (h8' : a8 1 = -3) (e7 : x7 = nI R) (hr : x2 < 0 ∨ 3 < x2 ∨ (¬ x2 < 0 ∧ x2 ≤ 3 ∧ x2 = nI R)) (hs : (z0 = 1 ∧ c = 3 ∧ x1 &&& 3 = nI R) ∨ (z0 = 0 ∧ (c = 3 → ¬ x1 &&& 3 = nI R))) : wL_lawOf_101 (fun r _ => r = 1) mc ms (nI c) x1 x2 x3 x4 1 x7 z0 kc ks t nd ss 1 dp a1 a2 a3 a4 a5 a6 a7 a8 a9 a10 a11 := by
  have M : ∀ v0 v1 : Int32, pg_V a1 a2 a6 a7 0 v0 → pg_V a1 a2 a6 a7 1 v1 → pg_M R v0 v1 a1 a2 a6 a7 a8 := fun v0 v1 V0 V1 => ⟨hR, Or.inr ⟨h6, V0, V1, Or.inl h8, Or.inl h8'⟩⟩
  rcases (show c = 0 ∨ c = 1 ∨ c = 2 ∨ c = 3 by omega) with rfl | rfl | rfl | rfl
  · rcases hs with ⟨_, z, _⟩ | ⟨rfl, _⟩
    · exact absurd z (by decide)
    · refine br_t rfl (br_c (fun e => ?_) (fun e => ?_))
      · exact pg_153 (Or.inr (Or.inl ⟨rfl, rfl, by decide, rfl, rfl⟩)) (M 1 (-1) (Or.inl (Or.inl ⟨h1, Or.inl ⟨rfl, h7.trans (e.symm.trans h2.symm), rfl⟩⟩)) (Or.inl (Or.inl ⟨h1, Or.inr ⟨fun z => absurd z (by decide), rfl⟩⟩))) e7 hr
      · exact pg_153 (Or.inr (Or.inr (Or.inl ⟨rfl, rfl, by decide, rfl, rfl⟩))) (M (-1) (-1) (Or.inl (Or.inl ⟨h1, Or.inr ⟨fun _ z => e (h2.symm.trans (z.symm.trans h7)), rfl⟩⟩)) (Or.inl (Or.inl ⟨h1, Or.inr ⟨fun z => absurd z (by decide), rfl⟩⟩))) e7 hr
  · rcases hs with ⟨_, z, _⟩ | ⟨rfl, _⟩
    · exact absurd z (by decide)
    · exact br_f (by decide) (br_t rfl (pg_153 (Or.inr (Or.inl ⟨rfl, rfl, by decide, rfl, rfl⟩)) (M 1 (-1) (Or.inl (Or.inr (Or.inl ⟨h1, Or.inl ⟨rfl, rfl⟩⟩))) (Or.inl (Or.inr (Or.inl ⟨h1, Or.inr ⟨by decide, rfl⟩⟩)))) e7 hr))
  · rcases hs with ⟨_, z, _⟩ | ⟨rfl, _⟩
    · exact absurd z (by decide)
    · exact br_f (by decide) (br_f (by decide) (br_t rfl (pg_153 (Or.inr (Or.inr (Or.inr (Or.inl ⟨rfl, rfl, rfl, rfl, rfl⟩)))) (M 0 0 (Or.inl (Or.inr (Or.inr ⟨h1, rfl⟩))) (Or.inl (Or.inr (Or.inr ⟨h1, rfl⟩)))) e7 hr)))
  · rcases hs with ⟨rfl, _, e⟩ | ⟨rfl, e⟩
    · have V : ∀ p, pg_V a1 a2 a6 a7 p (-2) := fun p => Or.inr ⟨h1, R, hR, h2.trans e, Or.inr ⟨h6, rfl⟩⟩
      exact br_f (by decide) (br_f (by decide) (br_f (by decide) (br_f (by decide) (pg_153 (Or.inr (Or.inr (Or.inr (Or.inr ⟨rfl, rfl, by decide, rfl, rfl⟩)))) (M (-2) (-2) (V 0) (V 1)) e7 hr))))
    · obtain ⟨A, hA, eA⟩ := pk_andE x1 (m := 3) 2 (by decide)
      have V : ∀ p, pg_V a1 a2 a6 a7 p (-1) := fun p => Or.inr ⟨h1, A, hA, h2.trans eA, Or.inl ⟨h6' A hA (fun z => e rfl (z ▸ eA)), rfl⟩⟩
      exact br_f (by decide) (br_f (by decide) (br_f (by decide) (br_t rfl (pg_153 (Or.inr (Or.inr (Or.inl ⟨rfl, rfl, by decide, rfl, rfl⟩))) (M (-1) (-1) (V 0) (V 1)) e7 hr))))
theorem pg_63 (hc : c ≤ 3) (hR : R < 4) (h1 : a1 0 = nI c) (h2 : a2 0 = x1 &&& 3) (h6 : a6 R = 0) (h6' : ∀ j, j < 4 → j ≠ R → a6 j = -1) (e7 : x2 &&& 3 = nI R) : wL_lawOf_63 (fun r _ => r = 1) mc ms (nI c) x1 x2 x3 x4 1 0 0 kc ks t nd ss 0 dp a1 a2 a3 a4 a5 a6 a7 a8 a9 a10 a11 := by
  have hr := pg_rule e7 hR
  refine br_t rfl (pg_type (fun o ho => br_t rfl (nm_r e7 ?_)))
  have o0 : o 0 = -3 := ho 0 (by decide)
  have o1 : o 1 = -3 := ho 1 (by decide)
  refine pk_eq c 3 (fun z => br_c (fun h => ?_) (fun h => ?_)) (fun z => ?_)
  · exact pg_101 hc hR h1 h2 h6 h6' pk_us o0 o1 rfl hr (Or.inl ⟨rfl, z, h⟩)
  · exact pg_101 hc hR h1 h2 h6 h6' pk_us o0 o1 rfl hr (Or.inr ⟨rfl, fun _ => h⟩)
  · exact pg_101 hc hR h1 h2 h6 h6' pk_us o0 o1 rfl hr (Or.inr ⟨rfl, fun y => absurd y z⟩)
theorem pg_42 (hc : c ≤ 3) (hR : R < 4) (h1 : a1 0 = nI c) (h2 : a2 0 = x1 &&& 3) (h5 : a5 0 = 0) (h6 : ∀ j, j < 4 → a6 j = -1) (e7 : x2 &&& 3 = nI R) : wL_lawOf_42 (fun r _ => r = 1) mc ms (nI c) x1 x2 x3 x4 1 1 1 kc ks 1 nd 1 0 dp a1 a2 a3 a4 a5 a6 a7 a8 a9 a10 a11 :=
  br_t rfl (pg_def hR e7 (fun o ho => br_f (by decide) (pg_63 hc hR h1 h2 (pk_us.trans h5) (fun j hj ne => (pk_un ne).trans (h6 j hj)) e7)))
theorem pg_lawOf (x0 x1 x2 x3 x4 : Int32) : wpL_lawOf (fun r _ => r = 1) 12 3600 () x0 x1 x2 x3 x4 := by
  obtain ⟨R, hR, e7⟩ := pk_andE x2 (m := 3) 2 (by decide)
  have hR4 : R < 4 := hR
  refine ⟨by decide, by decide, 11, 3584, by decide, by decide, pg_init (by decide) (by decide) (fun rn o h6 _ => ?_)⟩
  refine br_c (fun h => ?_) (fun h => br_c (fun h' => ?_) (fun h' => ?_))
  · exact pg_tokN (Or.inl h) (br_t rfl (br_t rfl (pg_tokN (Or.inr (by decide)) (br_t rfl (pg_63N (Or.inl h) hR4 (h6 R hR4) e7)))))
  · exact pg_tokN (Or.inr h') (br_t rfl (br_t rfl (pg_tokN (Or.inr (by decide)) (br_t rfl (pg_63N (Or.inr h') hR4 (h6 R hR4) e7)))))
  · obtain ⟨c, hc, rfl⟩ := nI_of2 (M := 3) (n := 3) (by decide) h (Int32.not_lt.mp h')
    exact pg_tok hc (br_f (by decide) (pg_42 hc hR4 pk_us pk_us pk_us h6 e7))
theorem pg_cell {post : Int32 → Prop} {L : Nat} {xs : Nat → Int32} {i : Nat} (hL : L ≤ 5) (hi : i < 5) (H : ∀ r, post r) : wpL_cellAt post L xs () (nI i) :=
  pk_le L i (fun _ => H 0) (fun z => ⟨pk_in i L z, H _⟩)
end
theorem i_vc (xs : Nat → Int32) (L : Nat) (hL : L ≤ 5) : wpL_law (fun r => r = 1) L xs :=
  pg_cell (i := 0) hL (by decide) (fun r1 => pg_cell (i := 1) hL (by decide) (fun r2 => pg_cell (i := 2) hL (by decide) (fun r3 => pg_cell (i := 3) hL (by decide) (fun r4 => pg_cell (i := 4) hL (by decide) (fun r5 => ⟨12, 3600, by decide, by decide, pg_lawOf r1 r2 r3 r4 r5⟩)))))
end
