section
section
variable {zs zh zo zd zl zk zr zz : Int32} {a1 a2 a3 a4 a5 a6 a7 a8 a9 a10 a11 a12 a13 a14 : Nat → Int32}
theorem vl_ix (a b c n : Nat) (h : a * b + c = n) : nI a * nI b + nI c = nI n := by
  rw [pk_mul, nI_add, h]
theorem vl_c0 : (0 : Int32).toNatClampNeg = 0 := by decide
theorem vl_c1 : (1 : Int32).toNatClampNeg = 1 := by decide
/-- put(1, v) on an input of s places -/
theorem vl_isIn {P : Int32 → Prop} (h : P 1) : wpX_isInput P () 1 := br_f (by decide) (br_f (by decide) h)
theorem vl_put {post : Int32 → St2 → Prop} (v : Int32) (s : Nat) (hs : s < 8) (h1 : a1 1 = nI s) (hp : post (nI (s + 1)) (zs, zh, zo, zd, zl, 0, zr, zz, upd a1 1 (nI (s + 1)), upd a2 (8 + s) v, a3, a4, a5, a6, a7, a8, a9, a10, a11, a12, a13, a14)) : wpX_put post (zs, zh, zo, zd, zl, zk, zr, zz, a1, a2, a3, a4, a5, a6, a7, a8, a9, a10, a11, a12, a13, a14) 1 v := by
  have e8 : (8 : Int32) * 1 + nI s = nI (8 + s) := vl_ix 8 1 s _ (by omega)
  unfold wpX_put
  dsimp only
  refine vl_isIn (br_f (by decide) ⟨pk_in 1 3 (by omega), ?_⟩)
  rw [vl_c1, h1, nI_1 s]
  refine br_t (nI_lt hs (by decide)) ⟨pk_in 1 3 (by omega), pk_in (8 + s) 24 (by omega) e8, nm_r (e' := upd a2 (8 + s) v) (by rw [pk_cl (8 + s) e8]) ⟨pk_in 1 3 (by omega), pk_in 1 3 (by omega), nm_e ⟨pk_in 1 3 (by omega), ?_⟩⟩⟩
  rw [pk_us]
  exact hp
/-- what is asked of a kind -/
theorem vl_fit1 {P : Int32 → Prop} (h : P 1) : wpX_fits P () 1 1 := br_f (by decide) (br_t rfl (br_f (by decide) (br_f (by decide) h)))
theorem vl_fit00 {P : Int32 → Prop} (h : P 1) : wpX_fits P () 0 0 := br_t rfl (br_f (by decide) (br_f (by decide) h))
theorem vl_fit01 {P : Int32 → Prop} (h : P 1) : wpX_fits P () 0 1 := br_t rfl (br_f (by decide) (br_f (by decide) h))
theorem vl_fitN {P : Int32 → Prop} {k a : Int32} (k0 : ¬ k = 0) (k1 : ¬ k = 1) (h : P 1) : wpX_fits P () k a := br_f k0 (br_f k1 h)
theorem vl_tk0 {P : Int32 → Prop} {k : Int32} (k2 : ¬ 2 < k) (h : P (nI 0)) : wpX_taken P () k := br_f k2 h
theorem vl_tk13 {P : Int32 → Prop} (h : P (nI 2)) : wpX_taken P () 13 := br_t (by decide) (br_f (by decide) (br_f (by decide) (br_t rfl h)))
theorem vl_tkN {P : Int32 → Prop} {k : Int32} (k2 : 2 < k) (k9 : ¬ k = 9) (k8 : k ≤ 8) (h : P (nI 2)) : wpX_taken P () k := br_t k2 (br_f k9 (br_t k8 h))
theorem vl_tr0 {P : Int32 → Prop} (h : P 1) : wpX_takesRow P () 13 0 := br_f (by decide) (br_f (by decide) (br_f (by decide) (br_f (by decide) (br_f (by decide) (br_t rfl (br_t rfl h))))))
theorem vl_tr1 {P : Int32 → Prop} (h : P 0) : wpX_takesRow P () 13 1 := br_f (by decide) (br_f (by decide) (br_f (by decide) (br_f (by decide) (br_f (by decide) (br_t rfl (br_f (by decide) h))))))
theorem vl_trN {P : Int32 → Prop} {k i : Int32} (hk : k < 10) (h : P 0) : wpX_takesRow P () k i := br_t hk h
theorem vl_gr1 {P : Int32 → Prop} (h : P 1) : wpX_givesRow P () 1 := br_t rfl h
theorem vl_grN {P : Int32 → Prop} {k : Int32} (k1 : ¬ k = 1) (k14 : k < 14) (h : P 0) : wpX_givesRow P () k := br_f k1 (br_t k14 h)
theorem vl_nar0 : vp_nar .boolean 0 = 0 := by rfl
theorem vl_nar1 : vp_nar .boolean 1 = 1 := by rfl
theorem vl_floor {P : Int32 → Prop} (h : P 0) : wpX_floor P (zs, zh, 0, zd, zl, zk, zr, zz, a1, a2, a3, a4, a5, a6, a7, a8, a9, a10, a11, a12, a13, a14) := br_t rfl h
theorem vl_sub (h n : Nat) : nI (h + n) - nI n = nI h := (pk_sub (Nat.le_add_left n h)).trans (congrArg nI (by omega))
theorem vl_st0 {post : Int32 → Prop} {k : Int32} (h : Nat) (hh : h < 6) (k21 : ¬ k = 21) (hp : post 1) : wpX_stands post (zs, nI (h + 0), 0, zd, zl, zk, zr, zz, a1, a2, a3, a4, a5, a6, a7, a8, a9, a10, a11, a12, a13, a14) k (nI 0) := by
  unfold wpX_stands
  dsimp only
  refine vl_floor (br_f k21 (br_t ?_ ⟨0 + 1, br_t (by decide) hp⟩))
  rw [vl_sub h 0]
  exact nI_pos' (by omega)
theorem vl_st2 {post : Int32 → Prop} {k r0 r1 : Int32} (h : Nat) (hh : h + 2 ≤ 6) (k21 : ¬ k = 21) (h0 : a5 h = r0) (h1 : a5 (h + 1) = r1)
    (t0 : ∀ P : Int32 → Prop, P r0 → wpX_takesRow P () k 0) (t1 : ∀ P : Int32 → Prop, P r1 → wpX_takesRow P () k 1) (hp : post 1) : wpX_stands post (zs, nI (h + 2), 0, zd, zl, zk, zr, zz, a1, a2, a3, a4, a5, a6, a7, a8, a9, a10, a11, a12, a13, a14) k (nI 2) := by
  have e : nI (h + 2) - nI 2 = nI h := vl_sub h 2
  have e0 : nI (h + 2) - nI 2 + 0 = nI h := by rw [e]; exact nI_add h 0
  have e1 : nI (h + 2) - nI 2 + 1 = nI (h + 1) := by rw [e]; exact nI_1 h
  unfold wpX_stands
  dsimp only
  refine vl_floor (br_f k21 (br_t (by rw [e]; exact nI_pos' (by omega)) ⟨2 + 1, ?_⟩))
  refine br_f (by decide) (t0 _ ⟨pk_in h 6 (by omega) e0, br_t (by rw [pk_cl h e0]; exact h0) (nm_r (e' := 1) (by decide) ?_)⟩)
  refine br_f (by decide) (t1 _ ⟨pk_in (h + 1) 6 (by omega) e1, br_t (by rw [pk_cl (h + 1) e1]; exact h1) (nm_r (e' := 2) (by decide) ?_)⟩)
  exact br_t (by decide) hp
theorem vl_follow {post : St2 → Prop} {k g : Int32} (h n : Nat) (hh : h < 6) (k19 : ¬ k = 19) (k20 : ¬ k = 20) (k21 : ¬ k = 21) (hg : ∀ P : Int32 → Prop, P g → wpX_givesRow P () k) (hb : vp_nar .boolean g = g)
    (hp : post (zs, nI (h + 1), zo, zd, zl, zk, zr, zz, a1, a2, a3, a4, upd a5 h g, a6, a7, a8, a9, a10, a11, a12, a13, a14)) : wpX_follow post (zs, nI (h + n), zo, zd, zl, zk, zr, zz, a1, a2, a3, a4, a5, a6, a7, a8, a9, a10, a11, a12, a13, a14) k (nI n) := by
  unfold wpX_follow
  dsimp only
  refine br_f k19 (br_f k20 (br_f k21 ?_))
  unfold wX_follow_62
  exact nm_r (vl_sub h n) (hg _ ⟨pk_in h 6 hh, nm_r (e' := upd a5 h g) (by rw [hb, nI_clamp (by omega)]) (nm_r (nI_1 h) hp)⟩)
/-- a token of any kind that opens and closes no block -/
theorem vl_tok {post : Int32 → St2 → Prop} {k a g : Int32} (s h n : Nat) (hs : s < 40) (hh : h < 6) (k0 : ¬ k < 0) (k1 : ¬ 21 < k) (k2 : ¬ k = 2) (k19 : ¬ k = 19) (k20 : ¬ k = 20) (k21 : ¬ k = 21)
    (hf : ∀ P : Int32 → Prop, P 1 → wpX_fits P () k a) (ht : ∀ P : Int32 → Prop, P (nI n) → wpX_taken P () k)
    (hst : ∀ P : Int32 → Prop, P 1 → wpX_stands P (nI s, nI (h + n), 0, zd, zl, zk, zr, zz, a1, a2, a3, a4, a5, a6, a7, a8, a9, a10, a11, a12, a13, a14) k (nI n))
    (hz : nI n = 0 → ¬ 6 ≤ nI (h + n)) (hg : ∀ P : Int32 → Prop, P g → wpX_givesRow P () k) (hb : vp_nar .boolean g = g)
    (hp : post (nI (s + 1)) (nI (s + 1), nI (h + 1), 0, zd, zl, 0, zr, zz, a1, a2, upd a3 s k, upd a4 s a, upd a5 h g, a6, a7, a8, a9, a10, a11, a12, a13, a14)) : wpX_token post (nI s, nI (h + n), 0, zd, zl, zk, zr, zz, a1, a2, a3, a4, a5, a6, a7, a8, a9, a10, a11, a12, a13, a14) k a := by
  have T : wX_token_109 post k a (nI n) (nI s) (nI (h + n)) 0 zd zl zk zr zz a1 a2 a3 a4 a5 a6 a7 a8 a9 a10 a11 a12 a13 a14 := by
    unfold wX_token_109
    refine ⟨pk_in s 40 hs, nm_r (e' := upd a3 s k) (by rw [nI_clamp (by omega)]) ⟨pk_in s 40 hs, nm_r (e' := upd a4 s a) (by rw [nI_clamp (by omega)]) (nm_r (nI_1 s) ?_)⟩⟩
    exact vl_follow h n hh k19 k20 k21 hg hb hp
  have U : wX_token_86 post k a (nI n) (nI s) (nI (h + n)) 0 zd zl zk zr zz a1 a2 a3 a4 a5 a6 a7 a8 a9 a10 a11 a12 a13 a14 := br_f k19 (br_f k20 T)
  have V : wX_token_52 post k a (nI s) (nI (h + n)) 0 zd zl zk zr zz a1 a2 a3 a4 a5 a6 a7 a8 a9 a10 a11 a12 a13 a14 := by
    unfold wX_token_52
    exact ht _ (hst _ (br_f (by decide) (br_c (fun z => br_f (hz z) U) (fun _ => U))))
  unfold wpX_token
  dsimp only
  exact br_f k0 (br_f k1 (hf _ (br_f (by decide) (br_t (nI_lt hs (by decide)) (br_f k2 V)))))
/-- the six kinds of the law -/
def vl_K (k : Int32) : Prop := k = 3 ∨ k = 4 ∨ k = 5 ∨ k = 6 ∨ k = 7 ∨ k = 8
theorem vl_Kd {P : Int32 → Prop} {k : Int32} (hk : vl_K k) (h3 : P 3) (h4 : P 4) (h5 : P 5) (h6 : P 6) (h7 : P 7) (h8 : P 8) : P k := by
  rcases hk with e | e | e | e | e | e
  · rw [e]; exact h3
  · rw [e]; exact h4
  · rw [e]; exact h5
  · rw [e]; exact h6
  · rw [e]; exact h7
  · rw [e]; exact h8
theorem vl_Kn {k : Int32} (hk : vl_K k) {c : Int32} (h3 : ¬ (3 : Int32) = c) (h4 : ¬ (4 : Int32) = c) (h5 : ¬ (5 : Int32) = c) (h6 : ¬ (6 : Int32) = c) (h7 : ¬ (7 : Int32) = c) (h8 : ¬ (8 : Int32) = c) : ¬ k = c :=
  vl_Kd (P := fun k => ¬ k = c) hk h3 h4 h5 h6 h7 h8
theorem vl_K0 {k : Int32} (hk : vl_K k) : ¬ k < 0 := vl_Kd (P := fun k => ¬ k < 0) hk (by decide) (by decide) (by decide) (by decide) (by decide) (by decide)
theorem vl_K21 {k : Int32} (hk : vl_K k) : ¬ 21 < k := vl_Kd (P := fun k => ¬ 21 < k) hk (by decide) (by decide) (by decide) (by decide) (by decide) (by decide)
theorem vl_K2 {k : Int32} (hk : vl_K k) : 2 < k := vl_Kd (P := fun k => 2 < k) hk (by decide) (by decide) (by decide) (by decide) (by decide) (by decide)
theorem vl_K8 {k : Int32} (hk : vl_K k) : k ≤ 8 := vl_Kd (P := fun k => k ≤ 8) hk (by decide) (by decide) (by decide) (by decide) (by decide) (by decide)
theorem vl_K10 {k : Int32} (hk : vl_K k) : k < 10 := vl_Kd (P := fun k => k < 10) hk (by decide) (by decide) (by decide) (by decide) (by decide) (by decide)
theorem vl_K14 {k : Int32} (hk : vl_K k) : k < 14 := vl_Kd (P := fun k => k < 14) hk (by decide) (by decide) (by decide) (by decide) (by decide) (by decide)
theorem vl_Ke {k : Int32} (hk : vl_K k) (c : Int32) (h : ¬ (3 : Int32) = c ∧ ¬ (4 : Int32) = c ∧ ¬ (5 : Int32) = c ∧ ¬ (6 : Int32) = c ∧ ¬ (7 : Int32) = c ∧ ¬ (8 : Int32) = c := by decide) : ¬ k = c :=
  vl_Kn hk h.1 h.2.1 h.2.2.1 h.2.2.2.1 h.2.2.2.2.1 h.2.2.2.2.2
theorem vl_hz {h : Nat} (hh : h < 6) : nI 0 = 0 → ¬ 6 ≤ nI (h + 0) := fun _ => nI_ge (b := 6) hh (by decide)
theorem vl_hz2 {h : Nat} : nI 2 = 0 → ¬ 6 ≤ nI (h + 2) := fun z => absurd z (by decide)
/-- the four tokens of the law -/
theorem vl_tokI {post : Int32 → St2 → Prop} (s h : Nat) (hs : s < 40) (hh : h < 6)
    (hp : post (nI (s + 1)) (nI (s + 1), nI (h + 1), 0, zd, zl, 0, zr, zz, a1, a2, upd a3 s 1, upd a4 s 1, upd a5 h 1, a6, a7, a8, a9, a10, a11, a12, a13, a14)) : wpX_token post (nI s, nI (h + 0), 0, zd, zl, zk, zr, zz, a1, a2, a3, a4, a5, a6, a7, a8, a9, a10, a11, a12, a13, a14) 1 1 :=
  vl_tok s h 0 hs hh (by decide) (by decide) (by decide) (by decide) (by decide) (by decide) (fun _ => vl_fit1) (fun _ => vl_tk0 (by decide)) (fun _ => vl_st0 h hh (by decide)) (vl_hz hh) (fun _ => vl_gr1) vl_nar1 hp
theorem vl_tokC {post : Int32 → St2 → Prop} {a : Int32} (s h : Nat) (hs : s < 40) (hh : h < 6) (hf : ∀ P : Int32 → Prop, P 1 → wpX_fits P () 0 a)
    (hp : post (nI (s + 1)) (nI (s + 1), nI (h + 1), 0, zd, zl, 0, zr, zz, a1, a2, upd a3 s 0, upd a4 s a, upd a5 h 0, a6, a7, a8, a9, a10, a11, a12, a13, a14)) : wpX_token post (nI s, nI (h + 0), 0, zd, zl, zk, zr, zz, a1, a2, a3, a4, a5, a6, a7, a8, a9, a10, a11, a12, a13, a14) 0 a :=
  vl_tok s h 0 hs hh (by decide) (by decide) (by decide) (by decide) (by decide) (by decide) hf (fun _ => vl_tk0 (by decide)) (fun _ => vl_st0 h hh (by decide)) (vl_hz hh) (fun _ => vl_grN (by decide) (by decide)) vl_nar0 hp
theorem vl_tokA {post : Int32 → St2 → Prop} {a : Int32} (s h : Nat) (hs : s < 40) (hh : h + 2 ≤ 6) (h0 : a5 h = 1) (h1 : a5 (h + 1) = 0)
    (hp : post (nI (s + 1)) (nI (s + 1), nI (h + 1), 0, zd, zl, 0, zr, zz, a1, a2, upd a3 s 13, upd a4 s a, upd a5 h 0, a6, a7, a8, a9, a10, a11, a12, a13, a14)) : wpX_token post (nI s, nI (h + 2), 0, zd, zl, zk, zr, zz, a1, a2, a3, a4, a5, a6, a7, a8, a9, a10, a11, a12, a13, a14) 13 a :=
  vl_tok s h 2 hs (by omega) (by decide) (by decide) (by decide) (by decide) (by decide) (by decide) (fun _ => vl_fitN (by decide) (by decide)) (fun _ => vl_tk13) (fun _ => vl_st2 h hh (by decide) h0 h1 (fun _ => vl_tr0) (fun _ => vl_tr1)) vl_hz2 (fun _ => vl_grN (by decide) (by decide)) vl_nar0 hp
theorem vl_tokB {post : Int32 → St2 → Prop} {k a : Int32} (hk : vl_K k) (s h : Nat) (hs : s < 40) (hh : h + 2 ≤ 6) (h0 : a5 h = 0) (h1 : a5 (h + 1) = 0)
    (hp : post (nI (s + 1)) (nI (s + 1), nI (h + 1), 0, zd, zl, 0, zr, zz, a1, a2, upd a3 s k, upd a4 s a, upd a5 h 0, a6, a7, a8, a9, a10, a11, a12, a13, a14)) : wpX_token post (nI s, nI (h + 2), 0, zd, zl, zk, zr, zz, a1, a2, a3, a4, a5, a6, a7, a8, a9, a10, a11, a12, a13, a14) k a :=
  vl_tok s h 2 hs (by omega) (vl_K0 hk) (vl_K21 hk) (vl_Ke hk 2) (vl_Ke hk 19) (vl_Ke hk 20) (vl_Ke hk 21) (fun _ => vl_fitN (vl_Ke hk 0) (vl_Ke hk 1)) (fun _ => vl_tkN (vl_K2 hk) (vl_Ke hk 9) (vl_K8 hk)) (fun _ => vl_st2 h hh (vl_Ke hk 21) h0 h1 (fun _ => vl_trN (vl_K10 hk)) (fun _ => vl_trN (vl_K10 hk))) vl_hz2 (fun _ => vl_grN (vl_Ke hk 1) (vl_K14 hk)) vl_nar0 hp
end
end
section
section
variable {zs zh zo zd zl zk zr zz : Int32} {a1 a2 a3 a4 a5 a6 a7 a8 a9 a10 a11 a12 a13 a14 : Nat → Int32}
/-- reading a value kept for one lane -/
theorem vl_lane {P : Int32 → Prop} (h : P 0) : wpX_laneAt P (zs, zh, zo, zd, zl, zk, zr, zz, a1, a2, a3, a4, a5, a6, a7, a8, a9, a10, a11, a12, a13, a14) 0 0 0 := br_t rfl h
theorem vl_num {post : Int32 → Prop} (e : Nat) (he : e < 7) (h7 : a7 e = 0) (hp : post (a8 (64 * e))) : wpX_number post (zs, zh, zo, zd, zl, zk, zr, zz, a1, a2, a3, a4, a5, a6, a7, a8, a9, a10, a11, a12, a13, a14) (nI e) 0 0 := by
  have e1 : (64 : Int32) * nI e + 0 = nI (64 * e) := vl_ix 64 e 0 _ (by omega)
  unfold wpX_number
  dsimp only
  refine ⟨pk_in e 7 he, ?_⟩
  rw [nI_clamp (show e < 2 ^ 31 by omega), h7]
  refine vl_lane ⟨pk_in (64 * e) 448 (by omega) e1, ?_⟩
  rw [pk_cl (64 * e) e1]
  exact hp
theorem vl_cells {post : Int32 → Prop} (e : Nat) (he : e < 7) (h7 : a7 e = 0) (hp : post (nI (512 * e))) : wpX_cells post (zs, zh, zo, zd, zl, zk, zr, zz, a1, a2, a3, a4, a5, a6, a7, a8, a9, a10, a11, a12, a13, a14) (nI e) 0 0 := by
  have e1 : (64 : Int32) * nI e + 0 = nI (64 * e) := vl_ix 64 e 0 _ (by omega)
  have e2 : (8 : Int32) * nI (64 * e) = nI (512 * e) := (pk_mul 8 (64 * e)).trans (congrArg nI (by omega))
  unfold wpX_cells
  dsimp only
  refine ⟨pk_in e 7 he, ?_⟩
  rw [nI_clamp (show e < 2 ^ 31 by omega), h7]
  refine vl_lane ?_
  rw [e1, e2]
  exact hp
theorem vl_deep {post : Int32 → Prop} (e : Nat) (he : e < 7) (h7 : a7 e = 0) (hp : post 0) : wpX_deeper post (zs, zh, zo, zd, zl, zk, zr, zz, a1, a2, a3, a4, a5, a6, a7, a8, a9, a10, a11, a12, a13, a14) (nI e) 0 := by
  unfold wpX_deeper
  dsimp only
  refine ⟨pk_in e 7 he, br_t ?_ hp⟩
  rw [nI_clamp (show e < 2 ^ 31 by omega), h7]
  decide
/-- the value to spare takes a place: of the data only that they are some data -/
theorem vl_settle {post : St2 → Prop} {r : Int32} (e : Nat) (he : e < 6) (h10 : a10 0 = 1) (h8 : a8 384 = r) (hp : ∀ b9, post (zs, zh, zo, zd, zl, zk, zr, zz, a1, a2, a3, a4, a5, a6, upd a7 e 0, upd a8 (64 * e) r, b9, a10, a11, a12, a13, a14)) : wpX_settle post (zs, zh, zo, zd, zl, zk, zr, zz, a1, a2, a3, a4, a5, a6, a7, a8, a9, a10, a11, a12, a13, a14) (nI e) 0 := by
  have e1 : (64 : Int32) * nI e + 0 = nI (64 * e) := vl_ix 64 e 0 _ (by omega)
  have e2 : (8 : Int32) * nI (64 * e) = nI (512 * e) := (pk_mul 8 (64 * e)).trans (congrArg nI (by omega))
  have l0 : ¬ a10 (0 : Int32).toNatClampNeg ≤ 0 := by rw [vl_c0, h10]; decide
  have l1 : a10 (0 : Int32).toNatClampNeg ≤ 1 := by rw [vl_c0, h10]; decide
  have c4 : (384 + 0 : Int32).toNatClampNeg = 384 := by decide
  unfold wpX_settle
  dsimp only
  refine ⟨pk_in e 7 (by omega), nm_r (e' := upd a7 e 0) (by rw [nI_clamp (by omega)]) ⟨1 + 1, ?_⟩⟩
  refine ⟨pk_in 0 3 (by omega), br_f l0 ⟨pk_in 384 448 (by omega) (by decide), pk_in (64 * e) 448 (by omega) e1, nm_r (e' := upd a8 (64 * e) r) (by rw [pk_cl (64 * e) e1, c4, h8]) ?_⟩⟩
  refine pk_loop (fun n i s => wX_settle_43 post (wX_settle_9 post (nI e) 0 zs zh zo zd zl zk zr zz 1) (nI e) 0 0 zs zh zo zd zl zk zr zz n (nI i) a1 a2 a3 a4 a5 a6 (upd a7 e 0) (upd a8 (64 * e) r) s a10 a11 a12 a13 a14) (fun _ _ => True) 8 0 a9 (by omega) trivial ?_ ?_
  · intro n s _
    exact br_t (by decide) (nm_r (e' := 1) (by decide) ⟨pk_in 0 3 (by omega), br_t l1 (hp s)⟩)
  · intro n i s hi _ hw
    refine br_f (nI_ge (b := 8) hi (by decide)) ⟨pk_in (3072 + i) 3584 (by omega) (nI_add 3072 i), pk_in (512 * e + i) 3584 (by omega) ?_, nm_e (nm_r (nI_1 i) (hw _ trivial))⟩
    rw [e1, e2, nI_add]
/-- AT for the one lane -/
theorem vl_row {post : St2 → Prop} (d c p : Nat) (hd : d + 1 < 7) (h0 : a7 d = 0) (h1 : a7 (d + 1) = 0) (hc : a8 (64 * d) = nI c) (hq : a8 (64 * (d + 1)) = nI p) (hpc : p < c) (hc8 : c ≤ 8)
    (hp : post (zs, zh, zo, zd, zl, zk, zr, zz, a1, a2, a3, a4, a5, a6, a7, upd a8 384 (a9 (512 * d + p)), a9, a10, a11, a12, a13, a14)) : wpX_overRow post (zs, zh, zo, zd, zl, zk, zr, zz, a1, a2, a3, a4, a5, a6, a7, a8, a9, a10, a11, a12, a13, a14) 13 (nI d) 0 0 := by
  have e3 : nI (512 * d) + nI p = nI (512 * d + p) := nI_add _ _
  unfold wpX_overRow
  dsimp only
  refine nm_r (e' := nI 384) (by decide) (vl_num d (by omega) h0 (vl_cells d (by omega) h0 ?_))
  rw [hc]
  refine br_f (by decide) (br_f (by decide) (br_f (by decide) (br_f (by decide) (br_f (by decide) (br_t rfl ?_)))))
  rw [nI_1 d]
  refine vl_num (d + 1) hd h1 ?_
  rw [hq]
  refine br_f (nI_pos (by omega)) (br_f (nI_ge hpc (by omega)) ⟨pk_in (512 * d + p) 3584 (by omega) e3, pk_in 384 448 (by omega), nm_r (e' := upd a8 384 (a9 (512 * d + p))) ?_ hp⟩)
  rw [pk_cl (512 * d + p) e3, nI_clamp (by decide)]
/-- a number for the one lane -/
theorem vl_nums {post : St2 → Prop} {k r : Int32} (k14 : ¬ k = 14) (k9 : ¬ k = 9) (d : Nat) (hd : d + 1 < 7) (h0 : a7 d = 0) (h1 : a7 (d + 1) = 0)
    (hw : ∀ P : Int32 → Prop, P r → wpX_worked P () k (a8 (64 * d)) (a8 (64 * (d + 1)))) (hp : post (zs, zh, zo, zd, zl, zk, zr, zz, a1, a2, a3, a4, a5, a6, a7, upd a8 384 r, a9, a10, a11, a12, a13, a14)) : wpX_overNumbers post (zs, zh, zo, zd, zl, zk, zr, zz, a1, a2, a3, a4, a5, a6, a7, a8, a9, a10, a11, a12, a13, a14) k (nI d) 0 0 := by
  unfold wpX_overNumbers
  dsimp only
  refine nm_r (e' := nI 384) (by decide) (vl_num d (by omega) h0 (br_f k14 (br_f k9 ?_)))
  rw [nI_1 d]
  exact vl_num (d + 1) hd h1 (hw _ ⟨pk_in 384 448 (by omega), nm_r (e' := upd a8 384 r) (by rw [nI_clamp (by decide)]) hp⟩)
/-- the lane's turn is over -/
theorem vl_comb1 {post : St2 → Prop} {k q r : Int32} (n d : Nat) (hd : d + 1 < 7) (h10 : a10 0 = 1) (h8 : a8 384 = r)
    (hp : ∀ b9, post (zs, zh, zo, nI (d + 1), zl, zk, zr, zz, a1, a2, a3, a4, a5, a6, upd a7 d 0, upd a8 (64 * d) r, b9, a10, a11, a12, a13, a14)) : wX_combine_53 post k (nI d) 0 q (n + 1) 1 zs zh zo zd zl zk zr zz a1 a2 a3 a4 a5 a6 a7 a8 a9 a10 a11 a12 a13 a14 := by
  have l1 : a10 (0 : Int32).toNatClampNeg ≤ 1 := by rw [vl_c0, h10]; decide
  exact ⟨pk_in 0 3 (by omega), br_t l1 (vl_settle d (by omega) h10 h8 (fun b9 => nm_r (nI_1 d) (hp b9)))⟩
/-- the deepest level is 0 -/
theorem vl_comb0 {post : St2 → Prop} {k : Int32} (d : Nat) (hd : d + 1 < 7) (h0 : a7 d = 0) (h1 : a7 (d + 1) = 0) (ht : ∀ P : Int32 → Prop, P (nI 2) → wpX_taken P () k)
    (hn : wpX_takesRow (fun r_4 => (∃ fu53 : Nat, wX_combine_53 post k (nI d) 0 r_4 fu53 0 zs zh zo (nI (d + 2)) zl zk zr zz a1 a2 a3 a4 a5 a6 a7 a8 a9 a10 a11 a12 a13 a14)) () k 0) : wpX_combine post (zs, zh, zo, nI (d + 2), zl, zk, zr, zz, a1, a2, a3, a4, a5, a6, a7, a8, a9, a10, a11, a12, a13, a14) k := by
  unfold wpX_combine
  dsimp only
  refine ht _ (nm_r (vl_sub d 2) ⟨2 + 1, ?_⟩)
  refine br_f (nI_ge (show d < d + 2 by omega) (by omega)) (vl_deep d (by omega) h0 (nm_r (nI_1 d) ?_))
  refine br_f (nI_ge (show d + 1 < d + 2 by omega) (by omega)) (vl_deep (d + 1) hd h1 (nm_r (nI_1 (d + 1)) ?_))
  exact br_t (nI_le (Nat.le_refl (d + 2)) (by omega)) hn
theorem vl_combA {post : St2 → Prop} (d c p : Nat) (hd : d + 1 < 6) (h0 : a7 d = 0) (h1 : a7 (d + 1) = 0) (h10 : a10 0 = 1) (hc : a8 (64 * d) = nI c) (hq : a8 (64 * (d + 1)) = nI p) (hpc : p < c) (hc8 : c ≤ 8)
    (hp : ∀ b9, post (zs, zh, zo, nI (d + 1), zl, zk, zr, zz, a1, a2, a3, a4, a5, a6, upd a7 d 0, upd (upd a8 384 (a9 (512 * d + p))) (64 * d) (a9 (512 * d + p)), b9, a10, a11, a12, a13, a14)) : wpX_combine post (zs, zh, zo, nI (d + 2), zl, zk, zr, zz, a1, a2, a3, a4, a5, a6, a7, a8, a9, a10, a11, a12, a13, a14) 13 := by
  have l0 : ¬ a10 (0 : Int32).toNatClampNeg ≤ 0 := by rw [vl_c0, h10]; decide
  refine vl_comb0 d (by omega) h0 h1 (fun _ => vl_tk13) (vl_tr0 ⟨1 + 1, ?_⟩)
  refine ⟨pk_in 0 3 (by omega), br_f l0 (br_f (by decide) (vl_row d c p (by omega) h0 h1 hc hq hpc hc8 ?_))⟩
  exact nm_r (e' := 1) (by decide) (vl_comb1 0 d (by omega) h10 pk_us hp)
theorem vl_combB {post : St2 → Prop} {k r : Int32} (hk : vl_K k) (d : Nat) (hd : d + 1 < 6) (h0 : a7 d = 0) (h1 : a7 (d + 1) = 0) (h10 : a10 0 = 1)
    (hw : ∀ P : Int32 → Prop, P r → wpX_worked P () k (a8 (64 * d)) (a8 (64 * (d + 1))))
    (hp : ∀ b9, post (zs, zh, zo, nI (d + 1), zl, zk, zr, zz, a1, a2, a3, a4, a5, a6, upd a7 d 0, upd (upd a8 384 r) (64 * d) r, b9, a10, a11, a12, a13, a14)) : wpX_combine post (zs, zh, zo, nI (d + 2), zl, zk, zr, zz, a1, a2, a3, a4, a5, a6, a7, a8, a9, a10, a11, a12, a13, a14) k := by
  have l0 : ¬ a10 (0 : Int32).toNatClampNeg ≤ 0 := by rw [vl_c0, h10]; decide
  refine vl_comb0 d (by omega) h0 h1 (fun _ => vl_tkN (vl_K2 hk) (vl_Ke hk 9) (vl_K8 hk)) (vl_trN (vl_K10 hk) ⟨1 + 1, ?_⟩)
  refine ⟨pk_in 0 3 (by omega), br_f l0 (br_t rfl (vl_nums (vl_Ke hk 14) (vl_Ke hk 9) d (by omega) h0 h1 hw ?_))⟩
  exact nm_r (e' := 1) (by decide) (vl_comb1 0 d (by omega) h10 pk_us hp)
/-- an input of two places is laid on the stack -/
theorem vl_push {post : St2 → Prop} (d : Nat) (hd : d < 6) (h1 : a1 1 = 2)
    (hp : post (zs, zh, zo, nI (d + 1), zl, zk, zr, zz, a1, a2, a3, a4, a5, a6, upd a7 d 0, upd a8 (64 * d) 2, upd (upd a9 (512 * d) (a2 8)) (512 * d + 1) (a2 9), a10, a11, a12, a13, a14)) : wpX_pushInput post (zs, zh, zo, nI d, zl, zk, zr, zz, a1, a2, a3, a4, a5, a6, a7, a8, a9, a10, a11, a12, a13, a14) 1 := by
  have e1 : (64 : Int32) * nI d = nI (64 * d) := pk_mul 64 d
  have e2 : (512 : Int32) * nI d + 0 = nI (512 * d) := vl_ix 512 d 0 _ (by omega)
  have e3 : (512 : Int32) * nI d + 1 = nI (512 * d + 1) := vl_ix 512 d 1 _ (by omega)
  have c8 : (8 * 1 + 0 : Int32).toNatClampNeg = 8 := by decide
  have c9 : (8 * 1 + 1 : Int32).toNatClampNeg = 9 := by decide
  have l0 : ¬ a1 (1 : Int32).toNatClampNeg ≤ 0 := by rw [vl_c1, h1]; decide
  have l1 : ¬ a1 (1 : Int32).toNatClampNeg ≤ 1 := by rw [vl_c1, h1]; decide
  have l2 : a1 (1 : Int32).toNatClampNeg ≤ 2 := by rw [vl_c1, h1]; decide
  unfold wpX_pushInput
  dsimp only
  refine ⟨pk_in d 7 (by omega), nm_r (e' := upd a7 d 0) (by rw [nI_clamp (by omega)]) ⟨pk_in 1 3 (by omega), pk_in (64 * d) 448 (by omega) e1, nm_r (e' := upd a8 (64 * d) 2) (by rw [pk_cl (64 * d) e1, vl_c1, h1]) ⟨2 + 1, ?_⟩⟩⟩
  refine ⟨pk_in 1 3 (by omega), br_f l0 ⟨pk_in 8 24 (by omega) (by decide), pk_in (512 * d) 3584 (by omega) e2, nm_r (e' := upd a9 (512 * d) (a2 8)) (by rw [pk_cl (512 * d) e2, c8]) (nm_r (e' := 1) (by decide) ?_)⟩⟩
  refine ⟨pk_in 1 3 (by omega), br_f l1 ⟨pk_in 9 24 (by omega) (by decide), pk_in (512 * d + 1) 3584 (by omega) e3, nm_r (e' := upd (upd a9 (512 * d) (a2 8)) (512 * d + 1) (a2 9)) (by rw [pk_cl (512 * d + 1) e3, c9]) (nm_r (e' := 2) (by decide) ?_)⟩⟩
  exact ⟨pk_in 1 3 (by omega), br_t l2 (nm_r (nI_1 d) hp)⟩
/-- the four carryings-out of the law -/
theorem vl_cC {post : St2 → Prop} {a : Int32} (d : Nat) (hd : d < 7) (hp : post (zs, zh, zo, nI (d + 1), zl, zk, zr, zz, a1, a2, a3, a4, a5, a6, upd a7 d 0, upd a8 (64 * d) a, a9, a10, a11, a12, a13, a14)) : wpX_carry post (zs, zh, zo, nI d, zl, zk, zr, zz, a1, a2, a3, a4, a5, a6, a7, a8, a9, a10, a11, a12, a13, a14) 0 a := by
  have e1 : (64 : Int32) * nI d = nI (64 * d) := pk_mul 64 d
  unfold wpX_carry
  dsimp only
  exact br_t rfl ⟨pk_in d 7 (by omega), nm_r (e' := upd a7 d 0) (by rw [nI_clamp (by omega)]) ⟨pk_in (64 * d) 448 (by omega) e1, nm_r (e' := upd a8 (64 * d) a) (by rw [pk_cl (64 * d) e1]) (nm_r (nI_1 d) hp)⟩⟩
theorem vl_cI {post : St2 → Prop} (d : Nat) (hd : d < 6) (h1 : a1 1 = 2)
    (hp : post (zs, zh, zo, nI (d + 1), zl, zk, zr, zz, a1, a2, a3, a4, a5, a6, upd a7 d 0, upd a8 (64 * d) 2, upd (upd a9 (512 * d) (a2 8)) (512 * d + 1) (a2 9), a10, a11, a12, a13, a14)) : wpX_carry post (zs, zh, zo, nI d, zl, zk, zr, zz, a1, a2, a3, a4, a5, a6, a7, a8, a9, a10, a11, a12, a13, a14) 1 1 := by
  unfold wpX_carry
  dsimp only
  exact br_f (by decide) (br_t rfl (vl_push d hd h1 hp))
theorem vl_cA {post : St2 → Prop} {a : Int32} (d c p : Nat) (hd : d + 1 < 6) (h0 : a7 d = 0) (h1 : a7 (d + 1) = 0) (h10 : a10 0 = 1) (hc : a8 (64 * d) = nI c) (hq : a8 (64 * (d + 1)) = nI p) (hpc : p < c) (hc8 : c ≤ 8)
    (hp : ∀ b9, post (zs, zh, zo, nI (d + 1), zl, zk, zr, zz, a1, a2, a3, a4, a5, a6, upd a7 d 0, upd (upd a8 384 (a9 (512 * d + p))) (64 * d) (a9 (512 * d + p)), b9, a10, a11, a12, a13, a14)) : wpX_carry post (zs, zh, zo, nI (d + 2), zl, zk, zr, zz, a1, a2, a3, a4, a5, a6, a7, a8, a9, a10, a11, a12, a13, a14) 13 a := by
  unfold wpX_carry
  dsimp only
  exact br_f (by decide) (br_f (by decide) (br_f (by decide) (br_f (by decide) (br_f (by decide) (br_f (by decide) (vl_combA d c p hd h0 h1 h10 hc hq hpc hc8 hp))))))
theorem vl_cB {post : St2 → Prop} {k a r : Int32} (hk : vl_K k) (d : Nat) (hd : d + 1 < 6) (h0 : a7 d = 0) (h1 : a7 (d + 1) = 0) (h10 : a10 0 = 1)
    (hw : ∀ P : Int32 → Prop, P r → wpX_worked P () k (a8 (64 * d)) (a8 (64 * (d + 1))))
    (hp : ∀ b9, post (zs, zh, zo, nI (d + 1), zl, zk, zr, zz, a1, a2, a3, a4, a5, a6, upd a7 d 0, upd (upd a8 384 r) (64 * d) r, b9, a10, a11, a12, a13, a14)) : wpX_carry post (zs, zh, zo, nI (d + 2), zl, zk, zr, zz, a1, a2, a3, a4, a5, a6, a7, a8, a9, a10, a11, a12, a13, a14) k a := by
  unfold wpX_carry
  dsimp only
  exact br_f (vl_Ke hk 0) (br_f (vl_Ke hk 1) (br_f (vl_Ke hk 2) (br_f (vl_Ke hk 19) (br_f (vl_Ke hk 20) (br_f (vl_Ke hk 21) (vl_combB hk d hd h0 h1 h10 hw hp))))))
end
end
section
section
variable {zs zh zo zd zl zk zr zz : Int32} {a1 a2 a3 a4 a5 a6 a7 a8 a9 a10 a11 a12 a13 a14 : Nat → Int32} {post : St2 → Prop}
/-- one token of the program is carried out -/
theorem vl_wC {a : Int32} (i f d : Nat) (hi : i < 7) (hk : a3 i = 0) (ha : a4 i = a) (hd : d < 7)
    (hn : wX_work_58 post f (nI (i + 1)) (nI 7) zh zo (nI (d + 1)) zl zk zr zz a1 a2 a3 a4 a5 a6 (upd a7 d 0) (upd a8 (64 * d) a) a9 a10 a11 a12 a13 a14) : wX_work_58 post (f + 1) (nI i) (nI 7) zh zo (nI d) zl zk zr zz a1 a2 a3 a4 a5 a6 a7 a8 a9 a10 a11 a12 a13 a14 := by
  refine br_f (nI_ge hi (by omega)) ⟨pk_in i 40 (by omega), pk_in i 40 (by omega), ?_⟩
  rw [nI_clamp (show i < 2 ^ 31 by omega), hk, ha]
  exact vl_cC d hd (nm_r (nI_1 i) hn)
theorem vl_wI (i f d : Nat) (hi : i < 7) (hk : a3 i = 1) (ha : a4 i = 1) (hd : d < 6) (h1 : a1 1 = 2)
    (hn : wX_work_58 post f (nI (i + 1)) (nI 7) zh zo (nI (d + 1)) zl zk zr zz a1 a2 a3 a4 a5 a6 (upd a7 d 0) (upd a8 (64 * d) 2) (upd (upd a9 (512 * d) (a2 8)) (512 * d + 1) (a2 9)) a10 a11 a12 a13 a14) : wX_work_58 post (f + 1) (nI i) (nI 7) zh zo (nI d) zl zk zr zz a1 a2 a3 a4 a5 a6 a7 a8 a9 a10 a11 a12 a13 a14 := by
  refine br_f (nI_ge hi (by omega)) ⟨pk_in i 40 (by omega), pk_in i 40 (by omega), ?_⟩
  rw [nI_clamp (show i < 2 ^ 31 by omega), hk, ha]
  exact vl_cI d hd h1 (nm_r (nI_1 i) hn)
theorem vl_wA {v : Int32} (i f d c p : Nat) (hi : i < 7) (hk : a3 i = 13) (hd : d + 1 < 6) (h0 : a7 d = 0) (h1 : a7 (d + 1) = 0) (h10 : a10 0 = 1) (hc : a8 (64 * d) = nI c) (hq : a8 (64 * (d + 1)) = nI p) (hpc : p < c) (hc8 : c ≤ 8)
    (hv : a9 (512 * d + p) = v)
    (hn : ∀ b9, wX_work_58 post f (nI (i + 1)) (nI 7) zh zo (nI (d + 1)) zl zk zr zz a1 a2 a3 a4 a5 a6 (upd a7 d 0) (upd (upd a8 384 v) (64 * d) v) b9 a10 a11 a12 a13 a14) : wX_work_58 post (f + 1) (nI i) (nI 7) zh zo (nI (d + 2)) zl zk zr zz a1 a2 a3 a4 a5 a6 a7 a8 a9 a10 a11 a12 a13 a14 := by
  subst hv
  refine br_f (nI_ge hi (by omega)) ⟨pk_in i 40 (by omega), pk_in i 40 (by omega), ?_⟩
  rw [nI_clamp (show i < 2 ^ 31 by omega), hk]
  exact vl_cA d c p hd h0 h1 h10 hc hq hpc hc8 (fun b9 => nm_r (nI_1 i) (hn b9))
theorem vl_wB {k n m r : Int32} (hK : vl_K k) (i f d : Nat) (hi : i < 7) (hk : a3 i = k) (hd : d + 1 < 6) (h0 : a7 d = 0) (h1 : a7 (d + 1) = 0) (h10 : a10 0 = 1) (hc : a8 (64 * d) = n) (hq : a8 (64 * (d + 1)) = m)
    (hw : ∀ P : Int32 → Prop, P r → wpX_worked P () k n m)
    (hn : ∀ b9, wX_work_58 post f (nI (i + 1)) (nI 7) zh zo (nI (d + 1)) zl zk zr zz a1 a2 a3 a4 a5 a6 (upd a7 d 0) (upd (upd a8 384 r) (64 * d) r) b9 a10 a11 a12 a13 a14) : wX_work_58 post (f + 1) (nI i) (nI 7) zh zo (nI (d + 2)) zl zk zr zz a1 a2 a3 a4 a5 a6 a7 a8 a9 a10 a11 a12 a13 a14 := by
  subst hc hq
  refine br_f (nI_ge hi (by omega)) ⟨pk_in i 40 (by omega), pk_in i 40 (by omega), ?_⟩
  rw [nI_clamp (show i < 2 ^ 31 by omega), hk]
  exact vl_cB hK d hd h0 h1 h10 hw (fun b9 => nm_r (nI_1 i) (hn b9))
/-- the end: a number is the result -/
theorem vl_wE {r : Int32} (f : Nat) (h5 : a5 0 = 0) (h8 : a8 0 = r) (hp : post (nI 7, zh, zo, zd, zl, zk, 1, 1, a1, a2, a3, a4, a5, a6, a7, a8, a9, a10, a11, a12, a13, upd a14 0 r)) : wX_work_58 post (f + 1) (nI 7) (nI 7) zh zo zd zl zk zr zz a1 a2 a3 a4 a5 a6 a7 a8 a9 a10 a11 a12 a13 a14 := by
  refine br_t (by decide) (br_t h5 ?_)
  unfold wX_work_103
  refine br_t h5 ⟨1 + 1, ?_⟩
  refine br_f (by decide) (br_t h5 ⟨pk_in 0 8 (by omega), nm_r (e' := upd a14 0 r) (by rw [vl_c0, h8]) (nm_r (e' := 1) (by decide) ?_)⟩)
  exact br_t (by decide) hp
/-- the seven tokens of the law -/
theorem vl_run {k n m r : Int32} (hK : vl_K k) (h1 : a1 1 = 2) (h28 : a2 8 = n) (h29 : a2 9 = m) (h10 : a10 0 = 1) (h5 : a5 0 = 0)
    (p0 : a3 0 = 1) (p1 : a3 1 = 0) (p2 : a3 2 = 13) (p3 : a3 3 = 1) (p4 : a3 4 = 0) (p5 : a3 5 = 13) (p6 : a3 6 = k) (q0 : a4 0 = 1) (q1 : a4 1 = 0) (q3 : a4 3 = 1) (q4 : a4 4 = 1)
    (hw : ∀ P : Int32 → Prop, P r → wpX_worked P () k n m)
    (hp : ∀ b7 b8 b9, post (nI 7, zh, zo, nI 1, zl, zk, 1, 1, a1, a2, a3, a4, a5, a6, b7, b8, b9, a10, a11, a12, a13, upd a14 0 r)) : wX_work_58 post 8 (nI 0) (nI 7) zh zo (nI 0) zl zk zr zz a1 a2 a3 a4 a5 a6 a7 a8 a9 a10 a11 a12 a13 a14 := by
  subst h28 h29
  refine vl_wI 0 7 0 (by omega) p0 q0 (by omega) h1 ?_
  refine vl_wC 1 6 1 (by omega) p1 q1 (by omega) ?_
  refine vl_wA (v := a2 8) 2 5 0 2 0 (by omega) p2 (by omega) rfl rfl h10 rfl rfl (by omega) (by omega) rfl (fun b9 => ?_)
  refine vl_wI 3 4 1 (by omega) p3 q3 (by omega) h1 ?_
  refine vl_wC 4 3 2 (by omega) p4 q4 (by omega) ?_
  refine vl_wA (v := a2 9) 5 2 1 2 1 (by omega) p5 (by omega) rfl rfl h10 rfl rfl (by omega) (by omega) rfl (fun c9 => ?_)
  refine vl_wB hK 6 1 0 (by omega) p6 (by omega) rfl rfl h10 (n := a2 8) (m := a2 9) rfl rfl hw (fun d9 => ?_)
  exact vl_wE 0 h5 rfl (hp _ _ _)
theorem vl_work {k n m r : Int32} (hK : vl_K k) (h1 : a1 1 = 2) (h28 : a2 8 = n) (h29 : a2 9 = m) (h5 : a5 0 = 0)
    (p0 : a3 0 = 1) (p1 : a3 1 = 0) (p2 : a3 2 = 13) (p3 : a3 3 = 1) (p4 : a3 4 = 0) (p5 : a3 5 = 13) (p6 : a3 6 = k) (q0 : a4 0 = 1) (q1 : a4 1 = 0) (q3 : a4 3 = 1) (q4 : a4 4 = 1)
    (hw : ∀ P : Int32 → Prop, P r → wpX_worked P () k n m)
    (hp : ∀ b7 b8 b9 b10, post (nI 7, nI 1, 0, nI 1, 0, 1, 1, 1, a1, a2, a3, a4, a5, a6, b7, b8, b9, b10, a11, a12, a13, upd a14 0 r)) : wpX_work post (nI 7, nI 1, 0, zd, zl, 0, zr, zz, a1, a2, a3, a4, a5, a6, a7, a8, a9, a10, a11, a12, a13, a14) := by
  unfold wpX_work
  dsimp only
  exact br_t rfl (br_f (by decide) (br_t rfl (nm_e ⟨8, vl_run hK h1 h28 h29 pk_us h5 p0 p1 p2 p3 p4 p5 p6 q0 q1 q3 q4 hw (fun b7 b8 b9 => hp b7 b8 b9 _)⟩)))
theorem vl_result {post : Int32 → St2 → Prop} {k n m r : Int32} (hK : vl_K k) (h1 : a1 1 = 2) (h28 : a2 8 = n) (h29 : a2 9 = m) (h5 : a5 0 = 0)
    (p0 : a3 0 = 1) (p1 : a3 1 = 0) (p2 : a3 2 = 13) (p3 : a3 3 = 1) (p4 : a3 4 = 0) (p5 : a3 5 = 13) (p6 : a3 6 = k) (q0 : a4 0 = 1) (q1 : a4 1 = 0) (q3 : a4 3 = 1) (q4 : a4 4 = 1)
    (hw : ∀ P : Int32 → Prop, P r → wpX_worked P () k n m)
    (hp : ∀ u, post r u) : wpX_result post (nI 7, nI 1, 0, zd, zl, 0, zr, zz, a1, a2, a3, a4, a5, a6, a7, a8, a9, a10, a11, a12, a13, a14) 0 := by
  unfold wpX_result
  dsimp only
  refine vl_work hK h1 h28 h29 h5 p0 p1 p2 p3 p4 p5 p6 q0 q1 q3 q4 hw (fun b7 b8 b9 b10 => ?_)
  dsimp only
  refine br_f (by decide) (br_f (by decide) ⟨pk_in 0 8 (by omega), ?_⟩)
  rw [vl_c0, pk_us]
  exact hp _
end
end
section
section
variable {zs zh zo zd zl zk zr zz : Int32} {a1 a2 a3 a4 a5 a6 a7 a8 a9 a10 a11 a12 a13 a14 : Nat → Int32}
theorem vl_w3 {P : Int32 → Prop} {n m : Int32} (h : P (n + m)) : wpX_worked P () 3 n m := br_f (by decide) (br_f (by decide) (br_t rfl h))
theorem vl_w4 {P : Int32 → Prop} {n m : Int32} (h : P (n - m)) : wpX_worked P () 4 n m := br_f (by decide) (br_f (by decide) (br_f (by decide) (br_t rfl h)))
theorem vl_w5 {P : Int32 → Prop} {n m : Int32} (h : P (n * m)) : wpX_worked P () 5 n m := br_f (by decide) (br_f (by decide) (br_f (by decide) (br_f (by decide) (br_t rfl h))))
theorem vl_w6z {P : Int32 → Prop} {n m : Int32} (z : m = 0) (h : P 0) : wpX_worked P () 6 n m := br_f (by decide) (br_f (by decide) (br_f (by decide) (br_f (by decide) (br_f (by decide) (br_t rfl (br_t z h))))))
theorem vl_w6n {P : Int32 → Prop} {n m : Int32} (z : ¬ m = 0) (h : P (n / m)) : wpX_worked P () 6 n m := br_f (by decide) (br_f (by decide) (br_f (by decide) (br_f (by decide) (br_f (by decide) (br_t rfl (br_f z ⟨z, h⟩))))))
theorem vl_w7t {P : Int32 → Prop} {n m : Int32} (z : m ≤ n) (h : P 0) : wpX_worked P () 7 n m := br_f (by decide) (br_f (by decide) (br_f (by decide) (br_f (by decide) (br_f (by decide) (br_f (by decide) (br_t rfl (br_t z h)))))))
theorem vl_w7f {P : Int32 → Prop} {n m : Int32} (z : ¬ m ≤ n) (h : P 1) : wpX_worked P () 7 n m := br_f (by decide) (br_f (by decide) (br_f (by decide) (br_f (by decide) (br_f (by decide) (br_f (by decide) (br_t rfl (br_f z h)))))))
theorem vl_w8t {P : Int32 → Prop} {n m : Int32} (z : n = m) (h : P 1) : wpX_worked P () 8 n m := br_f (by decide) (br_t (by decide) (br_t z h))
theorem vl_w8f {P : Int32 → Prop} {n m : Int32} (z : ¬ n = m) (h : P 0) : wpX_worked P () 8 n m := br_f (by decide) (br_t (by decide) (br_f z h))
/-- seven tokens are taken, and the result is what is due -/
theorem vl_130 {k n m op z : Int32} {mc ms kc ks : Nat} (hK : vl_K k) (h1 : a1 1 = 2) (h8 : a2 8 = n) (h9 : a2 9 = m) (hw : ∀ P : Int32 → Prop, P z → wpX_worked P () k n m) :
    wL_lawOf_130 (fun r _ => r = 1) mc ms n op k z kc ks (nI 0) (nI 0) 0 zd zl zk zr zz a1 a2 a3 a4 a5 a6 a7 a8 a9 a10 a11 a12 a13 a14 := by
  unfold wL_lawOf_130
  refine vl_tokI 0 0 (by omega) (by omega) ?_
  refine vl_tokC 1 1 (by omega) (by omega) (fun _ => vl_fit00) ?_
  refine vl_tokA 2 0 (by omega) (by omega) rfl rfl ?_
  refine vl_tokI 3 1 (by omega) (by omega) ?_
  refine vl_tokC 4 2 (by omega) (by omega) (fun _ => vl_fit01) ?_
  refine vl_tokA 5 1 (by omega) (by omega) rfl rfl ?_
  refine vl_tokB hK 6 0 (by omega) (by omega) rfl rfl ?_
  refine br_t rfl ?_
  exact vl_result hK h1 h8 h9 rfl rfl rfl rfl rfl rfl rfl rfl rfl rfl rfl rfl hw (fun _ => br_t rfl rfl)
theorem vl_br {k n m op : Int32} {mc ms kc ks : Nat} (hK : vl_K k) (h1 : a1 1 = 2) (h8 : a2 8 = n) (h9 : a2 9 = m) :
    (k = 3 → wL_lawOf_70 (fun r _ => r = 1) mc ms n m op k (n + m) kc ks (nI 0) (nI 0) 0 zd zl zk zr zz a1 a2 a3 a4 a5 a6 a7 a8 a9 a10 a11 a12 a13 a14) ∧ (¬ k = 3 → ((k = 4 → wL_lawOf_70 (fun r _ => r = 1) mc ms n m op k (n - m) kc ks (nI 0) (nI 0) 0 zd zl zk zr zz a1 a2 a3 a4 a5 a6 a7 a8 a9 a10 a11 a12 a13 a14) ∧ (¬ k = 4 → ((k = 5 → wL_lawOf_70 (fun r _ => r = 1) mc ms n m op k (n * m) kc ks (nI 0) (nI 0) 0 zd zl zk zr zz a1 a2 a3 a4 a5 a6 a7 a8 a9 a10 a11 a12 a13 a14) ∧ (¬ k = 5 → wL_lawOf_70 (fun r _ => r = 1) mc ms n m op k 0 kc ks (nI 0) (nI 0) 0 zd zl zk zr zz a1 a2 a3 a4 a5 a6 a7 a8 a9 a10 a11 a12 a13 a14))))) := by
  have hK' := hK
  rcases hK with rfl | rfl | rfl | rfl | rfl | rfl
  · exact br_t rfl (br_f (by decide) (br_f (by decide) (br_f (by decide) (vl_130 hK' h1 h8 h9 (fun _ => vl_w3)))))
  · exact br_f (by decide) (br_t rfl (br_f (by decide) (br_f (by decide) (br_f (by decide) (vl_130 hK' h1 h8 h9 (fun _ => vl_w4))))))
  · exact br_f (by decide) (br_f (by decide) (br_t rfl (br_f (by decide) (br_f (by decide) (br_f (by decide) (vl_130 hK' h1 h8 h9 (fun _ => vl_w5)))))))
  · refine br_f (by decide) (br_f (by decide) (br_f (by decide) (br_t rfl (br_c (fun z => ?_) (fun z => ⟨z, nm_e ?_⟩)))))
    · exact br_f (by decide) (br_f (by decide) (vl_130 hK' h1 h8 h9 (fun _ => vl_w6z z)))
    · exact br_f (by decide) (br_f (by decide) (vl_130 hK' h1 h8 h9 (fun _ => vl_w6n z)))
  · exact br_f (by decide) (br_f (by decide) (br_f (by decide) (br_f (by decide) (br_t rfl (br_c (fun z => vl_130 hK' h1 h8 h9 (fun _ => vl_w7t z)) (fun z => vl_130 hK' h1 h8 h9 (fun _ => vl_w7f z)))))))
  · exact br_f (by decide) (br_f (by decide) (br_f (by decide) (br_f (by decide) (br_f (by decide) (br_t rfl (br_c (fun z => vl_130 hK' h1 h8 h9 (fun _ => vl_w8t z)) (fun z => vl_130 hK' h1 h8 h9 (fun _ => vl_w8f z))))))))
end
theorem vl_K6 : ∀ t, t < 6 → vl_K (nI (3 + t)) := by
  intro t ht
  have h : t = 0 ∨ t = 1 ∨ t = 2 ∨ t = 3 ∨ t = 4 ∨ t = 5 := by omega
  rcases h with rfl | rfl | rfl | rfl | rfl | rfl
  · exact Or.inl (by decide)
  · exact Or.inr (Or.inl (by decide))
  · exact Or.inr (Or.inr (Or.inl (by decide)))
  · exact Or.inr (Or.inr (Or.inr (Or.inl (by decide))))
  · exact Or.inr (Or.inr (Or.inr (Or.inr (Or.inl (by decide)))))
  · exact Or.inr (Or.inr (Or.inr (Or.inr (Or.inr (by decide)))))
theorem vl_op (op : Int32) : vl_K (3 + ((op &&& 7) - (op &&& 7) / 6 * 6)) := by
  obtain ⟨j, hj, e⟩ := pk_andE op (m := 7) 3 (by decide)
  have e2 : (3 : Int32) + (nI j - nI j / 6 * 6) = nI (3 + j % 6) := by
    have e3 : nI j - nI j / 6 * 6 = nI (j % 6) := pk_rem (d := 6) (by omega) (by omega) (by omega)
    rw [e3]
    exact nI_add 3 (j % 6)
  rw [e, e2]
  exact vl_K6 _ (by omega)
theorem vl_lawOf (n m op : Int32) : wpL_lawOf (fun r _ => r = 1) 2252 36032 () n m op := by
  unfold wpL_lawOf
  refine ⟨by omega, by omega, 2251, 36010, by omega, by omega, ?_⟩
  unfold wpX_init
  dsimp only
  refine ⟨by omega, by omega, by omega, by omega, by omega, by omega, by omega, by omega, by omega, by omega, by omega, by omega, by omega, by omega, by omega, by omega, by omega, by omega, by omega, by omega, by omega, by omega, by omega, by omega, by omega, by omega, by omega, by omega, ?_⟩
  refine vl_put n 0 (by omega) rfl (vl_put m 1 (by omega) rfl ⟨by decide, fun k ek => ?_⟩)
  exact vl_br (by rw [ek]; exact vl_op op) rfl rfl rfl
theorem vl_cell {post : Int32 → Prop} {L : Nat} {xs : Nat → Int32} (hL : L ≤ 3) (j : Nat) (hj : j < 3) (h : ∀ v, post v) : wpL_cellAt post L xs () (nI j) :=
  pk_le L j (fun _ => h 0) (fun z => ⟨pk_in j L z, h _⟩)
theorem i_vc (xs : Nat → Int32) (L : Nat) (hL : L ≤ 3) : wpL_law (fun r => r = 1) L xs :=
  vl_cell hL 0 (by omega) (fun n => vl_cell hL 1 (by omega) (fun m => vl_cell hL 2 (by omega) (fun op => ⟨2252, 36032, by omega, by omega, vl_lawOf n m op⟩)))
end
