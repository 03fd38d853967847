section
/-! plain facts on ints -/
theorem ce_sh {m : Nat} (h : m < 128) : nI m >>> ((1 : Int32) &&& 31) = nI (m / 2) := pk_shrN (by omega) _ 1 (by decide)
theorem ce_ix (k m : Nat) : nI (k * 128) + 2 * nI m = nI (k * 128 + 2 * m) := by
  rw [show (2 : Int32) = nI 2 from rfl, pk_mul, nI_add]
theorem ce_zs (s : Int32) : ¬ (((0 : Int32) >>> s) &&& 1) = 1 := by
  rw [Int32.zero_shiftRight]
  decide
theorem ce_eq0 {x : Int32} (h : ¬ x < 0) (g : ¬ 0 < x) : x = 0 := Int32.le_antisymm (Int32.not_lt.mp g) (Int32.not_lt.mp h)
theorem ce_ne0 {x : Int32} (h : 0 < x) : ¬ x = 0 := by
  intro e
  rw [e] at h
  exact absurd h (by decide)
/-- an account's number: below the count, which is at most 6 -/
theorem ce_acc {n x : Int32} (hn : n ≤ 6) (h0 : ¬ x < 0) (h1 : ¬ n ≤ x) : ∃ k : Nat, k < 6 ∧ x = nI k := by
  obtain ⟨j, hj, rfl⟩ := nI_of h0
  refine ⟨j, ?_, rfl⟩
  rw [Int32.le_iff_toInt_le] at hn h1
  rw [nI_toInt hj] at h1
  have e : (6 : Int32).toInt = 6 := by decide
  omega
/-- the count of accounts: the given one, held between 2 and 6 -/
def ce_N (p n : Int32) : Prop := (2 ≤ p ∧ p ≤ 6 ∧ n = p) ∨ (2 ≤ p ∧ ¬ p ≤ 6 ∧ n = 6) ∨ (¬ 2 ≤ p ∧ n = 2)
theorem ce_ge0 {x : Int32} (h : ¬ x < 1) : 0 ≤ x := by
  rw [Int32.lt_iff_toInt_lt] at h
  rw [Int32.le_iff_toInt_le]
  have e : (1 : Int32).toInt = 1 := by decide
  have e0 : (0 : Int32).toInt = 0 := by decide
  omega
end
section
/-! the constructor -/
theorem ce_248 {post : St2 → Prop} {mc ms kc ks : Nat} {ac nc lc dc ec dp hs mk dt tc mv td ws wd : Int32} {a1 a2 a3 a4 a5 a6 a7 a8 a9 a10 a11 a12 a13 a14 a15 a16 a17 a18 a19 a20 a21 a22 a23 a24 a25 a26 : Nat → Int32} (H : ∀ b c : Nat → Int32, post (ac, nc, lc, dc, ec, dp, hs, mk, dt, tc, mv, td, ws, wd, a1, a2, a3, a4, a5, a6, a7, a8, a9, a10, a11, a12, a13, a14, b, c, a17, a18, a19, a20, a21, a22, a23, a24, a25, a26)) : ∃ n, wX_init_248 post mc ms kc ks ac nc lc dc ec dp hs mk dt tc mv td ws wd n 0 a1 a2 a3 a4 a5 a6 a7 a8 a9 a10 a11 a12 a13 a14 a15 a16 a17 a18 a19 a20 a21 a22 a23 a24 a25 a26 :=
  pk_loop (σ := (Nat → Int32) × (Nat → Int32)) (fun n i s => wX_init_248 post mc ms kc ks ac nc lc dc ec dp hs mk dt tc mv td ws wd n (nI i) a1 a2 a3 a4 a5 a6 a7 a8 a9 a10 a11 a12 a13 a14 (s.1) (s.2) a17 a18 a19 a20 a21 a22 a23 a24 a25 a26) (fun _ _ => True) 12 0 (a15, a16) (by omega) trivial
    (fun n s _ => pk_le 12 12 (fun _ => H _ _) (fun z => absurd z (by omega)))
    (fun n i s hi _ hw => pk_le 12 i (fun z => absurd z (by omega)) (fun _ => ⟨vp_in_nI hi (by omega), nm_e ⟨vp_in_nI hi (by omega), nm_e (nm_r (nI_1 i) (hw (_, _) trivial))⟩⟩))
theorem ce_init {post : St2 → Prop} {mc ms : Nat} {p : Int32} (h1 : 26 ≤ mc) (h2 : 2564 ≤ ms) (H : ∀ n : Int32, ce_N p n → ∀ b c : Nat → Int32, post (n, 0, 0, 0, 0, 0, 0, 0, 0, 0, 0, 0, 0, 0, (fun _ => 0), (fun _ => 0), (fun _ => 0), (fun _ => 0), (fun _ => 0), (fun _ => 0), (fun _ => 0), (fun _ => 0), (fun _ => 0), (fun _ => 0), (fun _ => 0), (fun _ => 0), (fun _ => 0), (fun _ => 0), b, c, (fun _ => 0), (fun _ => 0), (fun _ => 0), (fun _ => 0), (fun _ => 0), (fun _ => 0), (fun _ => 0), (fun _ => 0), (fun _ => 0), (fun _ => 0))) : wpX_init post mc ms (0, 0, 0, 0, 0, 0, 0, 0, 0, 0, 0, 0, 0, 0) p :=
  ⟨by omega, by omega, by omega, by omega, by omega, by omega, by omega, by omega, by omega, by omega, by omega, by omega, by omega, by omega, by omega, by omega, by omega, by omega, by omega, by omega, by omega, by omega, by omega, by omega, by omega, by omega, by omega, by omega, by omega, by omega, by omega, by omega, by omega, by omega, by omega, by omega, by omega, by omega, by omega, by omega, by omega, by omega, by omega, by omega, by omega, by omega, by omega, by omega, by omega, by omega, by omega, by omega,
    br_c (fun g => br_c (fun g6 => ce_248 (H _ (Or.inl ⟨g, g6, rfl⟩))) (fun g6 => ce_248 (H _ (Or.inr (Or.inl ⟨g, g6, rfl⟩)))))
      (fun g => br_t (by decide) (ce_248 (H _ (Or.inr (Or.inr ⟨g, rfl⟩)))))⟩
/-! enter: the first entry, a deposit into account k -/
theorem ce_145 {post : St2 → Prop} {ac nc lc dc ec dp hs mk dt tc mv td ws wd : Int32} {a1 a2 a3 a4 a5 a6 a7 a8 a9 a10 a11 a12 a13 a14 a15 a16 a17 a18 a19 a20 a21 a22 a23 a24 a25 a26 : Nat → Int32} {k : Nat} (hk : k < 6) (H : ∀ b c : Nat → Int32, post (ac, nc, lc, dc, ec + 1, dp, hs, mk, dt, tc, mv, td, ws, wd, a1, a2, a3, a4, a5, a6, a7, a8, a9, a10, a11, a12, a13, a14, a15, a16, a17, a18, a19, a20, a21, a22, a23, a24, b, c)) : ∃ n, wX_enter_145 post (nI (k * 128)) ac nc lc dc ec dp hs mk dt tc mv td ws wd n (nI 64) 0 a1 a2 a3 a4 a5 a6 a7 a8 a9 a10 a11 a12 a13 a14 a15 a16 a17 a18 a19 a20 a21 a22 a23 a24 a25 a26 :=
  pk_loop (σ := Nat × (Nat → Int32) × (Nat → Int32)) (fun n i s => wX_enter_145 post (nI (k * 128)) ac nc lc dc ec dp hs mk dt tc mv td ws wd n (nI s.1) (nI i) a1 a2 a3 a4 a5 a6 a7 a8 a9 a10 a11 a12 a13 a14 a15 a16 a17 a18 a19 a20 a21 a22 a23 a24 (s.2.1) (s.2.2)) (fun _ s => s.1 < 128) 6 0 (64, a25, a26) (by omega) (show 64 < 128 by omega)
    (fun n s _ => pk_le 6 6 (fun _ => nm_e (H _ _)) (fun z => absurd z (by omega)))
    (fun n i s hi h hw => by
      obtain ⟨m, b, c⟩ := s
      have hm : m < 128 := h
      have go : ∀ b' c' : Nat → Int32, wX_enter_145 post (nI (k * 128)) ac nc lc dc ec dp hs mk dt tc mv td ws wd n (nI (m / 2)) (nI (i + 1)) a1 a2 a3 a4 a5 a6 a7 a8 a9 a10 a11 a12 a13 a14 a15 a16 a17 a18 a19 a20 a21 a22 a23 a24 b' c' := fun b' c' => hw (m / 2, b', c') (show m / 2 < 128 by omega)
      have v1 : vp_in (nI (k * 128 + 2 * (m / 2))) 768 := vp_in_nI (by omega) (by omega)
      have v2 : vp_in (nI (k * 128 + 2 * (m / 2)) + 1) 768 := by
        rw [nI_1]
        exact vp_in_nI (by omega) (by omega)
      have v3 : vp_in (nI (k * 128) + nI (m / 2)) 768 := by
        rw [nI_add]
        exact vp_in_nI (by omega) (by omega)
      exact pk_le 6 i (fun z => absurd z (by omega)) (fun _ => nm_r (ce_sh hm) (nm_r (ce_ix k (m / 2)) ⟨v1, v2, nm_e ⟨v1, v2, v3, nm_e ⟨v1, br_c (fun _ => ⟨v3, nm_e (nm_r (nI_1 i) (go _ _))⟩) (fun _ => ⟨v1, v3, nm_e (nm_r (nI_1 i) (go _ _))⟩)⟩⟩⟩)))
theorem ce_enter {post : St2 → Prop} {ac nc lc dc dp hs mk dt tc mv td ws wd : Int32} {a1 a2 a3 a4 a5 a6 a7 a8 a9 a10 a11 a12 a13 a14 a15 a16 a17 a18 a19 a20 a21 a22 a23 a24 a25 a26 : Nat → Int32} {k : Nat} {m : Int32} (hk : k < 6) (hm : 0 ≤ m) (H : ∀ (t : Int32) (b20 b21 b23 b24 b25 b26 : Nat → Int32), post (ac, nc, lc, dc, 0 + 1, dp, hs, mk, dt, t, mv, td, ws, wd, a1, a2, a3, a4, a5, a6, a7, a8, a9, a10, a11, a12, a13, a14, a15, a16, a17, upd a18 k (a18 k + m), a19, b20, b21, upd a22 0 m, b23, b24, b25, b26)) : wpX_enter post (ac, nc, lc, dc, 0, dp, hs, mk, dt, tc, mv, td, ws, wd, a1, a2, a3, a4, a5, a6, a7, a8, a9, a10, a11, a12, a13, a14, a15, a16, a17, a18, a19, a20, a21, a22, a23, a24, a25, a26) 0 (nI k) m (-1) := by
  have e0 : vp_in (0 : Int32) 64 := pk_in 0 64 (by omega)
  have e6 : vp_in (nI k) 6 := vp_in_nI hk (by omega)
  have ck : (nI k).toNatClampNeg = k := nI_clamp (by omega)
  have e8 : vp_in (nI (k * 128) + nI 64) 768 := by
    rw [nI_add]
    exact vp_in_nI (by omega) (by omega)
  have f18 : upd a18 (nI k).toNatClampNeg (a18 (nI k).toNatClampNeg + m) = upd a18 k (a18 k + m) := by rw [ck]
  have f22 : upd a22 (0 : Int32).toNatClampNeg m = upd a22 0 m := by rw [sb_cl0]
  refine br_f (by decide) ?_
  exact ⟨e0, nm_e ⟨e0, nm_e ⟨e0, nm_r f22 ⟨e0, nm_e ⟨e0, nm_e ⟨e6, e6, nm_r f18 ⟨e6, nm_e (nm_r (pk_mul k 128) (nm_r (rfl : (64 : Int32) + 0 = nI 64) ⟨e8, nm_e (br_t hm ⟨e8, nm_e (ce_145 hk (fun b c => H _ _ _ _ _ b c))⟩)⟩))⟩⟩⟩⟩⟩⟩⟩
/-! settle: no deal stands, so no move is made -/
theorem ce_settle {post : Int32 → St2 → Prop} {ac nc lc ec dp hs mk dt tc td ws wd : Int32} {a1 a2 a3 a4 a5 a6 a7 a8 a9 a10 a11 a12 a13 a14 a15 a16 a17 a18 a19 a20 a21 a22 a23 a24 a25 a26 : Nat → Int32} (H : post 0 (ac, nc, lc, 0, ec, dp, hs, mk, dt, 0, 0, td, ws, wd, a1, a2, a3, a4, a5, a6, a7, a8, a9, a10, a11, a12, a13, a14, a15, a16, a17, a18, a19, a20, a21, a22, a23, a24, a25, a26)) : wpX_settle post (ac, nc, lc, 0, ec, dp, hs, mk, dt, tc, 0, td, ws, wd, a1, a2, a3, a4, a5, a6, a7, a8, a9, a10, a11, a12, a13, a14, a15, a16, a17, a18, a19, a20, a21, a22, a23, a24, a25, a26) :=
  ⟨0 + 1, br_f (by decide) ⟨0 + 1, br_t (by decide) (br_t rfl H)⟩⟩
/-! deposit -/
theorem ce_dep_u {post : Int32 → St2 → Prop} {ac nc lc dc ec dp hs mk dt tc mv td ws wd : Int32} {a1 a2 a3 a4 a5 a6 a7 a8 a9 a10 a11 a12 a13 a14 a15 a16 a17 a18 a19 a20 a21 a22 a23 a24 a25 a26 : Nat → Int32} {x m : Int32} (hu : x < 0 ∨ ac ≤ x) (H : post (-1) (ac, nc, lc, dc, ec, dp, hs, mk, dt, tc, mv, td, ws, wd, a1, a2, a3, a4, a5, a6, a7, a8, a9, a10, a11, a12, a13, a14, a15, a16, a17, a18, a19, a20, a21, a22, a23, a24, a25, a26)) : wpX_deposit post (ac, nc, lc, dc, ec, dp, hs, mk, dt, tc, mv, td, ws, wd, a1, a2, a3, a4, a5, a6, a7, a8, a9, a10, a11, a12, a13, a14, a15, a16, a17, a18, a19, a20, a21, a22, a23, a24, a25, a26) x m := by
  by_cases h0 : x < 0
  · exact br_t h0 (br_t rfl H)
  · exact br_f h0 (br_t (hu.resolve_left h0) (br_t rfl H))
theorem ce_dep_n {post : Int32 → St2 → Prop} {ac nc lc dc ec dp hs mk dt tc mv td ws wd : Int32} {a1 a2 a3 a4 a5 a6 a7 a8 a9 a10 a11 a12 a13 a14 a15 a16 a17 a18 a19 a20 a21 a22 a23 a24 a25 a26 : Nat → Int32} {x m : Int32} (h0 : ¬ x < 0) (h1 : ¬ ac ≤ x) (hm : m < 1 ∨ ¬ m ≤ 1000) (H : post (-2) (ac, nc, lc, dc, ec, dp, hs, mk, dt, tc, mv, td, ws, wd, a1, a2, a3, a4, a5, a6, a7, a8, a9, a10, a11, a12, a13, a14, a15, a16, a17, a18, a19, a20, a21, a22, a23, a24, a25, a26)) : wpX_deposit post (ac, nc, lc, dc, ec, dp, hs, mk, dt, tc, mv, td, ws, wd, a1, a2, a3, a4, a5, a6, a7, a8, a9, a10, a11, a12, a13, a14, a15, a16, a17, a18, a19, a20, a21, a22, a23, a24, a25, a26) x m := by
  by_cases g : m < 1
  · exact br_f h0 (br_f h1 (br_f (by decide) (br_t g H)))
  · exact br_f h0 (br_f h1 (br_f (by decide) (br_f g (br_f (hm.resolve_left g) H))))
theorem ce_dep_y {post : Int32 → St2 → Prop} {ac nc lc hs mk dt tc td ws wd : Int32} {a1 a2 a3 a4 a5 a6 a7 a8 a9 a10 a11 a12 a13 a14 a15 a16 a17 a18 a19 a20 a21 a22 a23 a24 a25 a26 : Nat → Int32} {k : Nat} {m : Int32} (hk : k < 6) (h1 : ¬ ac ≤ nI k) (hm : ¬ m < 1) (hm2 : m ≤ 1000) (hm0 : 0 ≤ m) (H : ∀ b20 b21 b23 b24 b25 b26 : Nat → Int32, post 0 (ac, nc, lc, 0, 0 + 1, 0 + 1, hs, mk, dt, 0, 0, td, ws, wd, a1, a2, a3, a4, a5, a6, a7, a8, a9, a10, a11, a12, a13, a14, a15, a16, a17, upd a18 k (a18 k + m), a19, b20, b21, upd a22 0 m, b23, b24, b25, b26)) : wpX_deposit post (ac, nc, lc, 0, 0, 0, hs, mk, dt, tc, 0, td, ws, wd, a1, a2, a3, a4, a5, a6, a7, a8, a9, a10, a11, a12, a13, a14, a15, a16, a17, a18, a19, a20, a21, a22, a23, a24, a25, a26) (nI k) m :=
  br_f (nI_pos (by omega)) (br_f h1 (br_f (by decide) (br_f hm (br_t hm2 (br_f (by decide) (nm_e (ce_enter hk hm0 (fun _ b20 b21 b23 b24 b25 b26 => ce_settle (H b20 b21 b23 b24 b25 b26)))))))))
/-! balance and entryAmount -/
theorem ce_bal_u {post : Int32 → Prop} {ac nc lc dc ec dp hs mk dt tc mv td ws wd : Int32} {a1 a2 a3 a4 a5 a6 a7 a8 a9 a10 a11 a12 a13 a14 a15 a16 a17 a18 a19 a20 a21 a22 a23 a24 a25 a26 : Nat → Int32} {x : Int32} (hu : x < 0 ∨ ac ≤ x) (H : post (-1)) : wpX_balance post (ac, nc, lc, dc, ec, dp, hs, mk, dt, tc, mv, td, ws, wd, a1, a2, a3, a4, a5, a6, a7, a8, a9, a10, a11, a12, a13, a14, a15, a16, a17, a18, a19, a20, a21, a22, a23, a24, a25, a26) x := by
  by_cases h0 : x < 0
  · exact br_t h0 (br_t rfl H)
  · exact br_f h0 (br_t (hu.resolve_left h0) (br_t rfl H))
theorem ce_bal_k {post : Int32 → Prop} {ac nc lc dc ec dp hs mk dt tc mv td ws wd : Int32} {a1 a2 a3 a4 a5 a6 a7 a8 a9 a10 a11 a12 a13 a14 a15 a16 a17 a18 a19 a20 a21 a22 a23 a24 a25 a26 : Nat → Int32} {k : Nat} {v : Int32} (hk : k < 6) (h1 : ¬ ac ≤ nI k) (hv : a18 k = v) (H : post v) : wpX_balance post (ac, nc, lc, dc, ec, dp, hs, mk, dt, tc, mv, td, ws, wd, a1, a2, a3, a4, a5, a6, a7, a8, a9, a10, a11, a12, a13, a14, a15, a16, a17, a18, a19, a20, a21, a22, a23, a24, a25, a26) (nI k) :=
  br_f (nI_pos (by omega)) (br_f h1 (br_f (by decide) ⟨vp_in_nI hk (by omega), by rw [nI_clamp (by omega), hv]; exact H⟩))
theorem ce_ent_0 {post : Int32 → Prop} {ac nc lc dc dp hs mk dt tc mv td ws wd : Int32} {a1 a2 a3 a4 a5 a6 a7 a8 a9 a10 a11 a12 a13 a14 a15 a16 a17 a18 a19 a20 a21 a22 a23 a24 a25 a26 : Nat → Int32} (H : post (-1)) : wpX_entryAmount post (ac, nc, lc, dc, 0, dp, hs, mk, dt, tc, mv, td, ws, wd, a1, a2, a3, a4, a5, a6, a7, a8, a9, a10, a11, a12, a13, a14, a15, a16, a17, a18, a19, a20, a21, a22, a23, a24, a25, a26) 0 :=
  br_f (by decide) (br_t (by decide) (br_t rfl H))
theorem ce_ent_1 {post : Int32 → Prop} {ac nc lc dc dp hs mk dt tc mv td ws wd : Int32} {a1 a2 a3 a4 a5 a6 a7 a8 a9 a10 a11 a12 a13 a14 a15 a16 a17 a18 a19 a20 a21 a22 a23 a24 a25 a26 : Nat → Int32} {v : Int32} (hv : a22 0 = v) (H : post v) : wpX_entryAmount post (ac, nc, lc, dc, 0 + 1, dp, hs, mk, dt, tc, mv, td, ws, wd, a1, a2, a3, a4, a5, a6, a7, a8, a9, a10, a11, a12, a13, a14, a15, a16, a17, a18, a19, a20, a21, a22, a23, a24, a25, a26) 0 :=
  br_f (by decide) (br_f (by decide) (br_f (by decide) ⟨pk_in 0 64 (by omega), by rw [sb_cl0, hv]; exact H⟩))
/-! nodes: newNode for a signer and for a day, signer, after, truth -/
theorem ce_new0 {post : Int32 → St2 → Prop} {ac nc lc dc ec dp hs dt tc mv td ws wd : Int32} {a1 a2 a3 a4 a5 a6 a7 a8 a9 a10 a11 a12 a13 a14 a15 a16 a17 a18 a19 a20 a21 a22 a23 a24 a25 a26 : Nat → Int32} {k : Nat} {p : Int32} (hk : k < 24) (hn : nc = nI k) (H : ∀ b1 b2 b3 b7 : Nat → Int32, post nc (ac, nc + 1, lc, dc, ec, dp, hs, 0, dt, tc, mv, td, ws, wd, b1, b2, b3, a4, a5, upd a6 k 0, b7, a8, a9, a10, a11, a12, a13, a14, a15, a16, a17, a18, a19, a20, a21, a22, a23, a24, a25, a26)) : wpX_newNode post (ac, nc, lc, dc, ec, dp, hs, 0, dt, tc, mv, td, ws, wd, a1, a2, a3, a4, a5, a6, a7, a8, a9, a10, a11, a12, a13, a14, a15, a16, a17, a18, a19, a20, a21, a22, a23, a24, a25, a26) 0 p 0 := by
  have e : vp_in nc 24 := pk_in k 24 hk hn
  have ck : nc.toNatClampNeg = k := pk_cl k hn
  have f : upd a6 nc.toNatClampNeg (vp_nar .boolean 0) = upd a6 k 0 := by
    rw [ck]
    rfl
  exact ⟨e, nm_e ⟨e, nm_e ⟨e, nm_e ⟨e, nm_e (nm_e ⟨e, br_t pk_us ⟨e, br_f (ce_zs _) ⟨e, nm_r f (H _ _ _ _)⟩⟩⟩)⟩⟩⟩⟩
theorem ce_new1 {post : Int32 → St2 → Prop} {ac nc lc dc ec dp hs mk dt tc mv ws wd : Int32} {a1 a2 a3 a4 a5 a6 a7 a8 a9 a10 a11 a12 a13 a14 a15 a16 a17 a18 a19 a20 a21 a22 a23 a24 a25 a26 : Nat → Int32} {k : Nat} {p : Int32} (hk : k < 24) (hn : nc = nI k) (H : ∀ (v : Int32) (b1 b2 b3 b7 : Nat → Int32), (0 < p ∧ v = 0) ∨ (¬ 0 < p ∧ v = 1) → post nc (ac, nc + 1, lc, dc, ec, dp, hs, mk, dt, tc, mv, 0, ws, wd, b1, b2, b3, a4, a5, upd a6 k v, b7, a8, a9, a10, a11, a12, a13, a14, a15, a16, a17, a18, a19, a20, a21, a22, a23, a24, a25, a26)) : wpX_newNode post (ac, nc, lc, dc, ec, dp, hs, mk, dt, tc, mv, 0, ws, wd, a1, a2, a3, a4, a5, a6, a7, a8, a9, a10, a11, a12, a13, a14, a15, a16, a17, a18, a19, a20, a21, a22, a23, a24, a25, a26) 1 p 0 := by
  have e : vp_in nc 24 := pk_in k 24 hk hn
  have ck : nc.toNatClampNeg = k := pk_cl k hn
  have f0 : upd a6 nc.toNatClampNeg (vp_nar .boolean 0) = upd a6 k 0 := by
    rw [ck]
    rfl
  have f1 : upd a6 nc.toNatClampNeg (vp_nar .boolean 1) = upd a6 k 1 := by
    rw [ck]
    rfl
  have g1 : upd a1 nc.toNatClampNeg 1 nc.toNatClampNeg = 1 := pk_us
  have g0 : ¬ upd a1 nc.toNatClampNeg 1 nc.toNatClampNeg = 0 := by
    rw [g1]
    decide
  have g2 : upd a2 nc.toNatClampNeg p nc.toNatClampNeg = p := pk_us
  exact ⟨e, nm_e ⟨e, nm_e ⟨e, nm_e ⟨e, nm_e (nm_e ⟨e, br_f g0 ⟨e, br_t g1 ⟨e, br_c (fun z => ⟨e, nm_r f0 (H 0 _ _ _ _ (Or.inl ⟨g2 ▸ z, rfl⟩))⟩) (fun z => ⟨e, nm_r f1 (H 1 _ _ _ _ (Or.inr ⟨g2 ▸ z, rfl⟩))⟩)⟩⟩⟩)⟩⟩⟩⟩
theorem ce_after_n {post : Int32 → St2 → Prop} {ac nc lc dc ec dp hs mk dt tc mv td ws wd : Int32} {a1 a2 a3 a4 a5 a6 a7 a8 a9 a10 a11 a12 a13 a14 a15 a16 a17 a18 a19 a20 a21 a22 a23 a24 a25 a26 : Nat → Int32} {x : Int32} (hx : x < 0 ∨ ¬ x ≤ 1000) (H : post (-1) (ac, nc, lc, dc, ec, dp, hs, mk, dt, tc, mv, td, ws, wd, a1, a2, a3, a4, a5, a6, a7, a8, a9, a10, a11, a12, a13, a14, a15, a16, a17, a18, a19, a20, a21, a22, a23, a24, a25, a26)) : wpX_after post (ac, nc, lc, dc, ec, dp, hs, mk, dt, tc, mv, td, ws, wd, a1, a2, a3, a4, a5, a6, a7, a8, a9, a10, a11, a12, a13, a14, a15, a16, a17, a18, a19, a20, a21, a22, a23, a24, a25, a26) x := by
  by_cases h0 : x < 0
  · exact br_t h0 H
  · exact br_f h0 (br_f (hx.resolve_left h0) H)
theorem ce_after_y {post : Int32 → St2 → Prop} {ac lc dc ec dp hs mk dt tc mv ws wd : Int32} {a1 a2 a3 a4 a5 a6 a7 a8 a9 a10 a11 a12 a13 a14 a15 a16 a17 a18 a19 a20 a21 a22 a23 a24 a25 a26 : Nat → Int32} {x : Int32} (h0 : ¬ x < 0) (h1 : x ≤ 1000) (H : ∀ (v : Int32) (b1 b2 b3 b7 : Nat → Int32), (0 < x ∧ v = 0) ∨ (¬ 0 < x ∧ v = 1) → post 0 (ac, 0 + 1, lc, dc, ec, dp, hs, mk, dt, tc, mv, 0, ws, wd, b1, b2, b3, a4, a5, upd a6 0 v, b7, a8, a9, a10, a11, a12, a13, a14, a15, a16, a17, a18, a19, a20, a21, a22, a23, a24, a25, a26)) : wpX_after post (ac, 0, lc, dc, ec, dp, hs, mk, dt, tc, mv, 0, ws, wd, a1, a2, a3, a4, a5, a6, a7, a8, a9, a10, a11, a12, a13, a14, a15, a16, a17, a18, a19, a20, a21, a22, a23, a24, a25, a26) x :=
  br_f h0 (br_t h1 (br_f (by decide) (ce_new1 (k := 0) (by omega) rfl H)))
theorem ce_sig_n {post : Int32 → St2 → Prop} {ac nc lc dc ec dp hs mk dt tc mv td ws wd : Int32} {a1 a2 a3 a4 a5 a6 a7 a8 a9 a10 a11 a12 a13 a14 a15 a16 a17 a18 a19 a20 a21 a22 a23 a24 a25 a26 : Nat → Int32} {x : Int32} (hx : x < 0 ∨ ¬ x ≤ 7) (H : post (-1) (ac, nc, lc, dc, ec, dp, hs, mk, dt, tc, mv, td, ws, wd, a1, a2, a3, a4, a5, a6, a7, a8, a9, a10, a11, a12, a13, a14, a15, a16, a17, a18, a19, a20, a21, a22, a23, a24, a25, a26)) : wpX_signer post (ac, nc, lc, dc, ec, dp, hs, mk, dt, tc, mv, td, ws, wd, a1, a2, a3, a4, a5, a6, a7, a8, a9, a10, a11, a12, a13, a14, a15, a16, a17, a18, a19, a20, a21, a22, a23, a24, a25, a26) x := by
  by_cases h0 : x < 0
  · exact br_t h0 H
  · exact br_f h0 (br_f (hx.resolve_left h0) H)
theorem ce_sig_y {post : Int32 → St2 → Prop} {ac nc lc dc ec dp hs dt tc mv td ws wd : Int32} {a1 a2 a3 a4 a5 a6 a7 a8 a9 a10 a11 a12 a13 a14 a15 a16 a17 a18 a19 a20 a21 a22 a23 a24 a25 a26 : Nat → Int32} {k : Nat} {x : Int32} (hk : k < 24) (hn : nc = nI k) (h24 : ¬ nc = 24) (h0 : ¬ x < 0) (h1 : x ≤ 7) (H : ∀ b1 b2 b3 b7 : Nat → Int32, post nc (ac, nc + 1, lc, dc, ec, dp, hs, 0, dt, tc, mv, td, ws, wd, b1, b2, b3, a4, a5, upd a6 k 0, b7, a8, a9, a10, a11, a12, a13, a14, a15, a16, a17, a18, a19, a20, a21, a22, a23, a24, a25, a26)) : wpX_signer post (ac, nc, lc, dc, ec, dp, hs, 0, dt, tc, mv, td, ws, wd, a1, a2, a3, a4, a5, a6, a7, a8, a9, a10, a11, a12, a13, a14, a15, a16, a17, a18, a19, a20, a21, a22, a23, a24, a25, a26) x :=
  br_f h0 (br_t h1 (br_f h24 (ce_new0 hk hn H)))
theorem ce_tru_n {post : Int32 → Prop} {ac lc dc ec dp hs mk dt tc mv td ws wd : Int32} {a1 a2 a3 a4 a5 a6 a7 a8 a9 a10 a11 a12 a13 a14 a15 a16 a17 a18 a19 a20 a21 a22 a23 a24 a25 a26 : Nat → Int32} (H : post (-1)) : wpX_truth post (ac, 0, lc, dc, ec, dp, hs, mk, dt, tc, mv, td, ws, wd, a1, a2, a3, a4, a5, a6, a7, a8, a9, a10, a11, a12, a13, a14, a15, a16, a17, a18, a19, a20, a21, a22, a23, a24, a25, a26) 0 :=
  br_f (by decide) (br_t (by decide) (br_t rfl H))
theorem ce_tru_y {post : Int32 → Prop} {ac nc lc dc ec dp hs mk dt tc mv td ws wd : Int32} {a1 a2 a3 a4 a5 a6 a7 a8 a9 a10 a11 a12 a13 a14 a15 a16 a17 a18 a19 a20 a21 a22 a23 a24 a25 a26 : Nat → Int32} {v : Int32} (hn : ¬ nc ≤ 0) (hv : a6 0 = v) (H0 : v = 0 → post 0) (H1 : ¬ v = 0 → post 1) : wpX_truth post (ac, nc, lc, dc, ec, dp, hs, mk, dt, tc, mv, td, ws, wd, a1, a2, a3, a4, a5, a6, a7, a8, a9, a10, a11, a12, a13, a14, a15, a16, a17, a18, a19, a20, a21, a22, a23, a24, a25, a26) 0 :=
  br_f (by decide) (br_f hn (br_f (by decide) ⟨pk_in 0 24 (by omega), by rw [sb_cl0, hv]; exact br_c H0 H1⟩))
end
section
/-! the law behind the deposit: the day, the signer, the truth of node 0 -/
theorem ce_245y {post : Int32 → St0 → Prop} {mc ms kc ks : Nat} {x3 x10 z0 z1 v : Int32} {ac nc lc dc ec dp hs mk dt tc mv td ws wd : Int32} {a1 a2 a3 a4 a5 a6 a7 a8 a9 a10 a11 a12 a13 a14 a15 a16 a17 a18 a19 a20 a21 a22 a23 a24 a25 a26 : Nat → Int32} (hp : post 1 ()) (h0 : ¬ x3 < 0) (hz : z1 = z0) (hn : ¬ nc ≤ 0) (ha : a6 0 = v) (hv : (0 < x3 ∧ v = 0) ∨ (¬ 0 < x3 ∧ v = 1)) : wL_lawOf_245 post mc ms x3 1 x10 z0 z1 kc ks ac nc lc dc ec dp hs mk dt tc mv td ws wd a1 a2 a3 a4 a5 a6 a7 a8 a9 a10 a11 a12 a13 a14 a15 a16 a17 a18 a19 a20 a21 a22 a23 a24 a25 a26 := by
  refine br_t hz (ce_tru_y hn ha (fun e => ?_) (fun e => ?_))
  · rcases hv with ⟨g, _⟩ | ⟨_, g⟩
    · exact br_f (by decide) (br_f (ce_ne0 g) (br_t rfl hp))
    · rw [g] at e
      exact absurd e (by decide)
  · rcases hv with ⟨_, g⟩ | ⟨g, _⟩
    · exact absurd g e
    · exact br_f (by decide) (br_t (ce_eq0 h0 g) (br_t rfl hp))
/-- the day was taken: node 0 is its node -/
theorem ce_191y {post : Int32 → St0 → Prop} {mc ms kc ks : Nat} {x3 x4 z v : Int32} {ac lc dc ec dp hs dt tc mv td ws wd : Int32} {a1 a2 a3 a4 a5 a6 a7 a8 a9 a10 a11 a12 a13 a14 a15 a16 a17 a18 a19 a20 a21 a22 a23 a24 a25 a26 : Nat → Int32} (hp : post 1 ()) (h0 : ¬ x3 < 0) (ha : a6 0 = v) (hv : (0 < x3 ∧ v = 0) ∨ (¬ 0 < x3 ∧ v = 1)) : wL_lawOf_191 post mc ms x3 x4 1 z z kc ks ac (0 + 1) lc dc ec dp hs 0 dt tc mv td ws wd a1 a2 a3 a4 a5 a6 a7 a8 a9 a10 a11 a12 a13 a14 a15 a16 a17 a18 a19 a20 a21 a22 a23 a24 a25 a26 := by
  have no : x4 < 0 ∨ ¬ x4 ≤ 7 → wL_lawOf_213 post mc ms x3 x4 1 0 kc ks ac (0 + 1) lc dc ec dp hs 0 dt tc mv td ws wd a1 a2 a3 a4 a5 a6 a7 a8 a9 a10 a11 a12 a13 a14 a15 a16 a17 a18 a19 a20 a21 a22 a23 a24 a25 a26 := fun hx => br_f (by decide) (ce_sig_n hx (br_t rfl (ce_245y hp h0 rfl (by decide) ha hv)))
  refine br_t rfl ?_
  by_cases g0 : x4 < 0
  · exact br_t g0 (no (Or.inl g0))
  · by_cases g7 : 7 < x4
    · exact br_f g0 (br_t g7 (no (Or.inr (Int32.not_le.mpr g7))))
    · have yes : wL_lawOf_213 post mc ms x3 x4 1 1 kc ks ac (0 + 1) lc dc ec dp hs 0 dt tc mv td ws wd a1 a2 a3 a4 a5 a6 a7 a8 a9 a10 a11 a12 a13 a14 a15 a16 a17 a18 a19 a20 a21 a22 a23 a24 a25 a26 := br_f (by decide) (ce_sig_y (k := 1) (by omega) rfl (by decide) g0 (Int32.not_lt.mp g7) (fun b1 b2 b3 b7 => br_f (by decide) (ce_245y hp h0 rfl (by decide) (by rw [pk_un (by decide)]; exact ha) hv)))
      exact br_f g0 (br_f g7 yes)
/-- the day was not taken: node 0 is the signer's, or none -/
theorem ce_191n {post : Int32 → St0 → Prop} {mc ms kc ks : Nat} {x3 x4 z : Int32} {ac lc dc ec dp hs dt tc mv td ws wd : Int32} {a1 a2 a3 a4 a5 a6 a7 a8 a9 a10 a11 a12 a13 a14 a15 a16 a17 a18 a19 a20 a21 a22 a23 a24 a25 a26 : Nat → Int32} (hp : post 1 ()) : wL_lawOf_191 post mc ms x3 x4 0 z z kc ks ac 0 lc dc ec dp hs 0 dt tc mv td ws wd a1 a2 a3 a4 a5 a6 a7 a8 a9 a10 a11 a12 a13 a14 a15 a16 a17 a18 a19 a20 a21 a22 a23 a24 a25 a26 := by
  have no : x4 < 0 ∨ ¬ x4 ≤ 7 → wL_lawOf_213 post mc ms x3 x4 0 0 kc ks ac 0 lc dc ec dp hs 0 dt tc mv td ws wd a1 a2 a3 a4 a5 a6 a7 a8 a9 a10 a11 a12 a13 a14 a15 a16 a17 a18 a19 a20 a21 a22 a23 a24 a25 a26 := fun hx => br_t rfl (ce_sig_n hx (br_t rfl (br_t rfl (ce_tru_n (br_t rfl (br_t rfl (br_t rfl hp)))))))
  refine br_t rfl ?_
  by_cases g0 : x4 < 0
  · exact br_t g0 (no (Or.inl g0))
  · by_cases g7 : 7 < x4
    · exact br_f g0 (br_t g7 (no (Or.inr (Int32.not_le.mpr g7))))
    · have yes : wL_lawOf_213 post mc ms x3 x4 0 1 kc ks ac 0 lc dc ec dp hs 0 dt tc mv td ws wd a1 a2 a3 a4 a5 a6 a7 a8 a9 a10 a11 a12 a13 a14 a15 a16 a17 a18 a19 a20 a21 a22 a23 a24 a25 a26 := br_t rfl (ce_sig_y (k := 0) (by omega) rfl (by decide) g0 (Int32.not_lt.mp g7) (fun b1 b2 b3 b7 => br_f (by decide) (br_t rfl (ce_tru_y (v := 0) (by decide) pk_us (fun _ => br_t rfl (br_f (by decide) (br_t rfl hp))) (fun e => absurd rfl e)))))
      exact br_f g0 (br_f g7 yes)
theorem ce_152 {post : Int32 → St0 → Prop} {mc ms kc ks : Nat} {x3 x4 z : Int32} {ac lc dc ec dp hs dt tc mv ws wd : Int32} {a1 a2 a3 a4 a5 a6 a7 a8 a9 a10 a11 a12 a13 a14 a15 a16 a17 a18 a19 a20 a21 a22 a23 a24 a25 a26 : Nat → Int32} (hp : post 1 ()) : wL_lawOf_152 post mc ms x3 x4 z z kc ks ac 0 lc dc ec dp hs 0 dt tc mv 0 ws wd a1 a2 a3 a4 a5 a6 a7 a8 a9 a10 a11 a12 a13 a14 a15 a16 a17 a18 a19 a20 a21 a22 a23 a24 a25 a26 := by
  have no : x3 < 0 ∨ ¬ x3 ≤ 1000 → wL_lawOf_173 post mc ms x3 x4 0 kc ks ac 0 lc dc ec dp hs 0 dt tc mv 0 ws wd a1 a2 a3 a4 a5 a6 a7 a8 a9 a10 a11 a12 a13 a14 a15 a16 a17 a18 a19 a20 a21 a22 a23 a24 a25 a26 := fun hx => ce_after_n hx (br_t rfl (ce_191n hp))
  refine br_t rfl ?_
  by_cases g0 : x3 < 0
  · exact br_t g0 (no (Or.inl g0))
  · by_cases g1 : 1000 < x3
    · exact br_f g0 (br_t g1 (no (Or.inr (Int32.not_le.mpr g1))))
    · have yes : wL_lawOf_173 post mc ms x3 x4 1 kc ks ac 0 lc dc ec dp hs 0 dt tc mv 0 ws wd a1 a2 a3 a4 a5 a6 a7 a8 a9 a10 a11 a12 a13 a14 a15 a16 a17 a18 a19 a20 a21 a22 a23 a24 a25 a26 := ce_after_y g0 (Int32.not_lt.mp g1) (fun v b1 b2 b3 b7 hv => br_f (by decide) (ce_191y hp g0 pk_us hv))
      exact br_f g0 (br_f g1 yes)
end
section
/-! the law's deposit, by the three roads; the law -/
theorem ce_67u {post : Int32 → St0 → Prop} {mc ms kc ks : Nat} {x1 x2 x3 x4 z : Int32} {ac lc hs dt tc ws wd : Int32} {a1 a2 a3 a4 a5 a6 a7 a8 a9 a10 a11 a12 a13 a14 a15 a16 a17 a18 a19 a20 a21 a22 a23 a24 a25 a26 : Nat → Int32} (hp : post 1 ()) (hu : x1 < 0 ∨ ac ≤ x1) : wL_lawOf_67 post mc ms x1 x2 x3 x4 0 z kc ks ac 0 lc 0 0 0 hs 0 dt tc 0 0 ws wd a1 a2 a3 a4 a5 a6 a7 a8 a9 a10 a11 a12 a13 a14 a15 a16 a17 a18 a19 a20 a21 a22 a23 a24 a25 a26 :=
  ce_dep_u hu (br_t rfl (br_t rfl (ce_bal_u hu (br_t rfl (br_t rfl (ce_ent_0 (br_t rfl (ce_152 hp))))))))
theorem ce_67n {post : Int32 → St0 → Prop} {mc ms kc ks : Nat} {x2 x3 x4 : Int32} {k : Nat} {ac lc hs dt tc ws wd : Int32} {a1 a2 a3 a4 a5 a6 a7 a8 a9 a10 a11 a12 a13 a14 a15 a16 a17 a19 a20 a21 a22 a23 a24 a25 a26 : Nat → Int32} (hp : post 1 ()) (hk : k < 6) (h1 : ¬ ac ≤ nI k) (hm : x2 < 1 ∨ ¬ x2 ≤ 1000) : wL_lawOf_67 post mc ms (nI k) x2 x3 x4 1 0 kc ks ac 0 lc 0 0 0 hs 0 dt tc 0 0 ws wd a1 a2 a3 a4 a5 a6 a7 a8 a9 a10 a11 a12 a13 a14 a15 a16 a17 (fun _ => 0) a19 a20 a21 a22 a23 a24 a25 a26 :=
  ce_dep_n (nI_pos (by omega)) h1 hm (br_f (by decide) (br_t rfl (br_t rfl (ce_bal_k (v := 0) hk h1 rfl (br_f (by decide) (br_t rfl (br_t rfl (ce_ent_0 (br_f (by decide) (br_t rfl (ce_152 hp)))))))))))
theorem ce_67y {post : Int32 → St0 → Prop} {mc ms kc ks : Nat} {x2 x3 x4 : Int32} {k : Nat} {ac lc hs dt tc ws wd : Int32} {a1 a2 a3 a4 a5 a6 a7 a8 a9 a10 a11 a12 a13 a14 a15 a16 a17 a19 a20 a21 a22 a23 a24 a25 a26 : Nat → Int32} (hp : post 1 ()) (hk : k < 6) (h1 : ¬ ac ≤ nI k) (hm : ¬ x2 < 1) (hm2 : x2 ≤ 1000) (hm0 : 0 ≤ x2) : wL_lawOf_67 post mc ms (nI k) x2 x3 x4 1 1 kc ks ac 0 lc 0 0 0 hs 0 dt tc 0 0 ws wd a1 a2 a3 a4 a5 a6 a7 a8 a9 a10 a11 a12 a13 a14 a15 a16 a17 (fun _ => 0) a19 a20 a21 a22 a23 a24 a25 a26 :=
  ce_dep_y hk h1 hm hm2 hm0 (fun b20 b21 b23 b24 b25 b26 => br_f (by decide) (br_f (by decide) (br_t rfl (ce_bal_k (v := x2) hk h1 (by rw [pk_us]; exact Int32.zero_add x2) (br_f (by decide) (br_f (by decide) (br_t rfl (ce_ent_1 (v := x2) pk_us (br_f (by decide) (br_f (by decide) (ce_152 hp)))))))))))
theorem ce_33 {post : Int32 → St0 → Prop} {mc ms kc ks : Nat} {x1 x2 x3 x4 : Int32} {ac lc hs dt tc ws wd : Int32} {a1 a2 a3 a4 a5 a6 a7 a8 a9 a10 a11 a12 a13 a14 a15 a16 a17 a19 a20 a21 a22 a23 a24 a25 a26 : Nat → Int32} (hp : post 1 ()) (hn : ac ≤ 6) : wL_lawOf_33 post mc ms x1 x2 x3 x4 ac kc ks ac 0 lc 0 0 0 hs 0 dt tc 0 0 ws wd a1 a2 a3 a4 a5 a6 a7 a8 a9 a10 a11 a12 a13 a14 a15 a16 a17 (fun _ => 0) a19 a20 a21 a22 a23 a24 a25 a26 := by
  have un : x1 < 0 ∨ ac ≤ x1 → wL_lawOf_48 post mc ms x1 x2 x3 x4 0 kc ks ac 0 lc 0 0 0 hs 0 dt tc 0 0 ws wd a1 a2 a3 a4 a5 a6 a7 a8 a9 a10 a11 a12 a13 a14 a15 a16 a17 (fun _ => 0) a19 a20 a21 a22 a23 a24 a25 a26 := fun hu => br_c (fun _ => ce_67u hp hu) (fun _ => br_c (fun _ => ce_67u hp hu) (fun _ => ce_67u hp hu))
  by_cases g0 : x1 < 0
  · exact br_t g0 (un (Or.inl g0))
  · by_cases g1 : ac ≤ x1
    · exact br_f g0 (br_t g1 (un (Or.inr g1)))
    · obtain ⟨k, hk, rfl⟩ := ce_acc hn g0 g1
      have kn : wL_lawOf_48 post mc ms (nI k) x2 x3 x4 1 kc ks ac 0 lc 0 0 0 hs 0 dt tc 0 0 ws wd a1 a2 a3 a4 a5 a6 a7 a8 a9 a10 a11 a12 a13 a14 a15 a16 a17 (fun _ => 0) a19 a20 a21 a22 a23 a24 a25 a26 := br_c (fun h => ce_67n hp hk g1 (Or.inl h)) (fun h => br_c (fun h2 => ce_67n hp hk g1 (Or.inr (Int32.not_le.mpr h2))) (fun h2 => ce_67y hp hk g1 h (Int32.not_lt.mp h2) (ce_ge0 h)))
      exact br_f g0 (br_f g1 kn)
theorem ce_lawOf {post : Int32 → St0 → Prop} {x0 x1 x2 x3 x4 : Int32} (hp : post 1 ()) : wpL_lawOf post 27 2604 () x0 x1 x2 x3 x4 := by
  refine ⟨by omega, by omega, 26, 2564, by omega, by omega, ce_init (by omega) (by omega) (fun n hn b c => ?_)⟩
  rcases hn with ⟨g, g6, rfl⟩ | ⟨g, g6, rfl⟩ | ⟨g, rfl⟩
  · exact br_t g (br_t g6 (ce_33 hp g6))
  · exact br_t g (br_f g6 (ce_33 hp (by decide)))
  · exact br_f g (br_t (by decide) (ce_33 hp (by decide)))
theorem ce_cell {post : Int32 → Prop} {L : Nat} {xs : Nat → Int32} {p : Int32} (j : Nat) (hj : j < 5) (hL : L ≤ 5) (H : ∀ v, post v) (hx : p = nI j := by rfl) : wpL_cellAt post L xs () p :=
  pk_le L j (fun _ => H _) (fun z => ⟨pk_in j L z hx, H _⟩) rfl hx
theorem i_vc (xs : Nat → Int32) (L : Nat) (hL : L ≤ 5) : wpL_law (fun r => r = 1) L xs :=
  ce_cell 0 (by omega) hL (fun x0 => ce_cell 1 (by omega) hL (fun x1 => ce_cell 2 (by omega) hL (fun x2 => ce_cell 3 (by omega) hL (fun x3 => ce_cell 4 (by omega) hL (fun x4 => ⟨27, 2604, by omega, by omega, ce_lawOf rfl⟩)))))
end
