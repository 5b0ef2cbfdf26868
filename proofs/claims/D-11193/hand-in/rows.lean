section
/-! ===== places of the arrays, the small methods, the leaves ===== -/
theorem dt_ix0 (j : Nat) : nI j * 40 = nI (j * 40) := pk_mul j 40
theorem dt_ix (j k : Nat) : nI j * 40 + nI k = nI (j * 40 + k) := by
  rw [dt_ix0, nI_add]
theorem dt_ixm (j k : Nat) : nI j * 40 + nI (k + 1) - 1 = nI (j * 40 + k) := by
  rw [dt_ix, ← Nat.add_assoc]
  exact nI_pred _
theorem dt_cl {j k : Nat} (hj : j < 8) (hk : k < 40) : (nI j * 40 + nI k).toNatClampNeg = j * 40 + k := by
  rw [dt_ix]
  exact nI_clamp (by omega)
theorem dt_in {j k : Nat} (hj : j < 8) (hk : k < 40) : vp_in (nI j * 40 + nI k) 320 := by
  rw [dt_ix]
  exact vp_in_nI (by omega) (by omega)
theorem dt_l0 (j : Nat) : (0 : Int32) * 4 + nI j = nI j := by
  rw [show (0 : Int32) * 4 = nI 0 from by decide, nI_add, Nat.zero_add]
theorem dt_l1 (j : Nat) : (1 : Int32) * 4 + nI j = nI (4 + j) := by
  rw [show (1 : Int32) * 4 = nI 4 from by decide, nI_add]
theorem dt_v0 : vp_in 0 2 := vp_in_nI (n := 0) (by omega) (by omega)
theorem dt_nar0 : vp_nar .boolean 0 = 0 := by decide
/-- a set of revisions with revision k added, at place 0 -/
def dt_or (f : Nat → Int64) (k : Nat) : Nat → Int64 := vp_updL f 0 (f 0 ||| ((1 : Int64) <<< ((nI k).toInt64 &&& 63)))
theorem dt_site0 {Q : Int32 → Prop} (h : Q 0) : wpX_badSite Q () 0 := br_f (by decide) (br_t (by decide) h)
theorem dt_site1 {Q : Int32 → Prop} (h : Q 0) : wpX_badSite Q () 1 := br_f (by decide) (br_t (by decide) h)
theorem dt_doc {Q : Int32 → Prop} {j : Nat} (hj : j < 4) (h : Q 0) : wpX_badDoc Q () (nI j) :=
  br_f (nI_pos (by omega)) (br_t (nI_lt (b := 4) hj (by decide)) h)
section
variable {n : Int32} {a1 a2 a3 a4 a5 : Nat → Int32} {a6 a7 : Nat → Int64} {a8 a9 a10 : Nat → Int32} {j : Nat}
theorem dt_ref {Q : Int32 → Prop} (hj : j < 4) (hn : n < 40) (h : Q 0) : wpX_refusal Q (n, a1, a2, a3, a4, a5, a6, a7, a8, a9, a10) 0 (nI j) := by
  unfold wpX_refusal
  exact dt_site0 (br_t rfl (dt_doc hj (br_t rfl (br_t hn h))))
/-- a site's set holds the revision, and it is the document's -/
theorem dt_has1 {Q : Int32 → Prop} {k p : Nat} (hpk : p < k) (hk : k ≤ 40) (hd : a1 p = nI j)
    (hb : (((a6 0).toUInt64 >>> ((nI p).toInt64.toUInt64 &&& Int64.toUInt64 63)).toInt64 &&& 1) = 1) (h : Q 1) :
    wpX_hasOf Q (nI k, a1, a2, a3, a4, a5, a6, a7, a8, a9, a10) 0 (nI j) (nI p) := by
  unfold wpX_hasOf
  refine And.intro dt_v0 ?_
  unfold wpX_isIn
  refine br_f (nI_pos (by omega)) (br_f (nI_ge hpk (by omega)) (br_t ?_ (br_f (by decide) (And.intro (vp_in_nI (by omega) (by omega)) (br_t ?_ h)))))
  · rw [sb_cl0]
    exact hb
  · rw [nI_clamp (show p < 2 ^ 31 by omega)]
    exact hd
theorem dt_has0 {Q : Int32 → Prop} {p : Int32} (hp : p < 0 ∨ n ≤ p) (h : Q 0) :
    wpX_hasOf Q (n, a1, a2, a3, a4, a5, a6, a7, a8, a9, a10) 0 (nI j) p := by
  unfold wpX_hasOf
  refine And.intro dt_v0 ?_
  unfold wpX_isIn
  refine br_c (fun _ => br_t rfl h) (fun g => br_t (hp.resolve_left g) (br_t rfl h))
/-- of two revisions of one depth, neither a deletion, the later one wins unless its body is less -/
theorem dt_wins {Q : Int32 → Prop} {p q : Nat} (hp : p < 40) (hq : q < 40) (h5 : a5 p = a5 q) (h3 : a3 p = a3 q) (hqp : q < p)
    (h1 : ¬ a4 p < a4 q → Q 1) (h0 : a4 p < a4 q → Q 0) : wpX_wins Q (n, a1, a2, a3, a4, a5, a6, a7, a8, a9, a10) (nI p) (nI q) := by
  have cp : (nI p).toNatClampNeg = p := nI_clamp (by omega)
  have cq : (nI q).toNatClampNeg = q := nI_clamp (by omega)
  have vp : vp_in (nI p) 40 := vp_in_nI hp (by omega)
  have vq : vp_in (nI q) 40 := vp_in_nI hq (by omega)
  refine And.intro vp (And.intro vq (br_t ?_ (And.intro vp (And.intro vq (br_t ?_ (And.intro vp (And.intro vq (br_c (fun h => br_f (nI_ge hqp (by omega)) ?_) (fun h => And.intro vp (And.intro vq (br_c (fun g => ?_) (fun g => ?_))))))))))))
  · rw [cp, cq]
    exact h5
  · rw [cp, cq]
    exact h3
  · rw [cp, cq] at h
    refine h1 (fun t => ?_)
    rw [h, Int32.lt_iff_toInt_lt] at t
    omega
  · rw [cp, cq] at h g
    refine h0 ?_
    rw [Int32.lt_iff_toInt_lt]
    rw [Int32.le_iff_toInt_le] at g
    rw [← Int32.toInt_inj] at h
    omega
  · rw [cp, cq] at g
    refine h1 (fun t => g ?_)
    rw [Int32.le_iff_toInt_le]
    rw [Int32.lt_iff_toInt_lt] at t
    omega
/-- an empty list takes a leaf -/
theorem dt_add0 {post : St2 → Prop} {r : Int32} (hj : j < 8) (h9 : a9 j = 0)
    (H : post (n, a1, a2, a3, a4, a5, a6, a7, a8, upd a9 j 1, upd a10 (j * 40) r)) :
    wpX_addLeaf post (n, a1, a2, a3, a4, a5, a6, a7, a8, a9, a10) (nI j) r := by
  have c : (nI j).toNatClampNeg = j := nI_clamp (by omega)
  have v : vp_in (nI j) 8 := vp_in_nI hj (by omega)
  have i0 : (nI j * 40 + 0).toNatClampNeg = j * 40 := dt_cl (k := 0) hj (by omega)
  refine And.intro v (nm_r (e' := 0) ?_ (Exists.intro 1 (br_t (by decide) (And.intro (dt_in (k := 0) hj (by omega)) (nm_r (e' := upd a10 (j * 40) r) ?_ (And.intro v (And.intro v (nm_r (e' := upd a9 j 1) ?_ H))))))))
  · rw [c, h9]
  · rw [i0]
  · rw [c, h9, show (0 : Int32) + 1 = 1 from by decide]
/-- a list of one leaf takes another behind it .. -/
theorem dt_add1L {post : St2 → Prop} {r l : Int32} (hj : j < 8) (h9 : a9 j = 1) (hl : a10 (j * 40) = l)
    (HW : ∀ Q : Int32 → Prop, Q 0 → wpX_wins Q (n, a1, a2, a3, a4, a5, a6, a7, a8, a9, a10) r l)
    (H : post (n, a1, a2, a3, a4, a5, a6, a7, a8, upd a9 j 2, upd a10 (j * 40 + 1) r)) :
    wpX_addLeaf post (n, a1, a2, a3, a4, a5, a6, a7, a8, a9, a10) (nI j) r := by
  have c : (nI j).toNatClampNeg = j := nI_clamp (by omega)
  have v : vp_in (nI j) 8 := vp_in_nI hj (by omega)
  have im : (nI j * 40 + nI 1 - 1).toNatClampNeg = j * 40 := by
    rw [dt_ixm j 0]
    exact nI_clamp (by omega)
  have vm : vp_in (nI j * 40 + nI 1 - 1) 320 := by
    rw [dt_ixm j 0]
    exact vp_in_nI (by omega) (by omega)
  refine And.intro v (nm_r (e' := nI 1) ?_ (Exists.intro 1 (br_f (by decide) (And.intro vm ?_))))
  · rw [c]
    exact h9
  · rw [im, hl]
    refine HW _ (br_t rfl (And.intro (dt_in (k := 1) hj (by omega)) (nm_r (e' := upd a10 (j * 40 + 1) r) ?_ (And.intro v (And.intro v (nm_r (e' := upd a9 j 2) ?_ H))))))
    · rw [dt_cl hj (by omega)]
    · rw [c, h9, show (1 : Int32) + 1 = 2 from by decide]
/-- .. or ahead of it -/
theorem dt_add1W {post : St2 → Prop} {r l : Int32} (hj : j < 8) (h9 : a9 j = 1) (hl : a10 (j * 40) = l)
    (HW : ∀ Q : Int32 → Prop, Q 1 → wpX_wins Q (n, a1, a2, a3, a4, a5, a6, a7, a8, a9, a10) r l)
    (H : post (n, a1, a2, a3, a4, a5, a6, a7, a8, upd a9 j 2, upd (upd a10 (j * 40 + 1) l) (j * 40) r)) :
    wpX_addLeaf post (n, a1, a2, a3, a4, a5, a6, a7, a8, a9, a10) (nI j) r := by
  have c : (nI j).toNatClampNeg = j := nI_clamp (by omega)
  have v : vp_in (nI j) 8 := vp_in_nI hj (by omega)
  have im : (nI j * 40 + nI 1 - 1).toNatClampNeg = j * 40 := by
    rw [dt_ixm j 0]
    exact nI_clamp (by omega)
  have vm : vp_in (nI j * 40 + nI 1 - 1) 320 := by
    rw [dt_ixm j 0]
    exact vp_in_nI (by omega) (by omega)
  refine And.intro v (nm_r (e' := nI 1) ?_ (Exists.intro 2 (br_f (by decide) (And.intro vm ?_))))
  · rw [c]
    exact h9
  · rw [im, hl]
    refine HW _ (br_f (by decide) (And.intro vm (And.intro (dt_in (k := 1) hj (by omega)) (nm_r (e' := upd a10 (j * 40 + 1) l) ?_ (nm_r (pk_m1 0) (br_t (by decide) (And.intro (dt_in (k := 0) hj (by omega)) (nm_r (e' := upd (upd a10 (j * 40 + 1) l) (j * 40) r) ?_ (And.intro v (And.intro v (nm_r (e' := upd a9 j 2) ?_ H)))))))))))
    · rw [dt_cl hj (by omega)]
    · rw [dt_cl hj (by omega)]
      rfl
    · rw [c, h9, show (1 : Int32) + 1 = 2 from by decide]
/-- a list of one leaf loses it .. -/
theorem dt_dropH {post : St2 → Prop} {r : Int32} (hj : j < 8) (h9 : a9 j = 1) (hl : a10 (j * 40) = r)
    (H : post (n, a1, a2, a3, a4, a5, a6, a7, a8, upd a9 j 0, a10)) :
    wpX_dropLeaf post (n, a1, a2, a3, a4, a5, a6, a7, a8, a9, a10) (nI j) r := by
  have c : (nI j).toNatClampNeg = j := nI_clamp (by omega)
  have v : vp_in (nI j) 8 := vp_in_nI hj (by omega)
  have i0 : (nI j * 40 + 0).toNatClampNeg = j * 40 := dt_cl (k := 0) hj (by omega)
  refine Exists.intro 2 (And.intro v (br_f ?_ (And.intro (dt_in (k := 0) hj (by omega)) (nm_r (e' := r) ?_ (br_t rfl (nm_r (nI_1 0) (And.intro v (br_t ?_ (And.intro v (nm_r (e' := upd a9 j 0) ?_ H))))))))))
  · rw [c, h9]
    decide
  · rw [i0, hl]
  · rw [c, h9]
    decide
  · rw [c]
/-- .. or keeps it -/
theorem dt_dropM {post : St2 → Prop} {r l : Int32} (hj : j < 8) (h9 : a9 j = 1) (hl : a10 (j * 40) = l) (hr : ¬ l = r)
    (H : post (n, a1, a2, a3, a4, a5, a6, a7, a8, upd a9 j 1, upd a10 (j * 40) l)) :
    wpX_dropLeaf post (n, a1, a2, a3, a4, a5, a6, a7, a8, a9, a10) (nI j) r := by
  have c : (nI j).toNatClampNeg = j := nI_clamp (by omega)
  have v : vp_in (nI j) 8 := vp_in_nI hj (by omega)
  have i0 : (nI j * 40 + 0).toNatClampNeg = j * 40 := dt_cl (k := 0) hj (by omega)
  refine Exists.intro 2 (And.intro v (br_f ?_ (And.intro (dt_in (k := 0) hj (by omega)) (nm_r (e' := l) ?_ (br_f hr (And.intro (dt_in (k := 0) hj (by omega)) (nm_r (e' := upd a10 (j * 40) l) ?_ (nm_r (nI_1 0) (nm_r (nI_1 0) (And.intro v (br_t ?_ (And.intro v (nm_r (e' := upd a9 j 1) ?_ H)))))))))))))
  · rw [c, h9]
    decide
  · rw [i0, hl]
  · rw [i0]
  · rw [c, h9]
    decide
  · rw [c]
    rfl
end
end
section
/-! ===== writing a revision at site 0; put and branch ===== -/
section
variable {n : Int32} {a1 a2 a3 a4 a5 : Nat → Int32} {a6 a7 : Nat → Int64} {a8 a9 a10 b9 b10 c9 c10 : Nat → Int32} {j k : Nat}
/-- a revision without a parent -/
theorem dt_writeN {post : Int32 → St2 → Prop} {p2 p3 : Int32} (hk : k < 40) (hp : p2 < 0)
    (HA : ∀ Q : St2 → Prop, Q (nI (k + 1), upd a1 k (nI j), upd a2 k p2, upd a3 k 1, upd a4 k p3, upd a5 k 0, dt_or a6 k, dt_or a7 k, upd a8 0 (a8 0 + 1), b9, b10) →
      wpX_addLeaf Q (nI (k + 1), upd a1 k (nI j), upd a2 k p2, upd a3 k 1, upd a4 k p3, upd a5 k 0, dt_or a6 k, dt_or a7 k, upd a8 0 (a8 0 + 1), a9, a10) (nI j) (nI k))
    (H : post (nI k) (nI (k + 1), upd a1 k (nI j), upd a2 k p2, upd a3 k 1, upd a4 k p3, upd a5 k 0, dt_or a6 k, dt_or a7 k, upd a8 0 (a8 0 + 1), b9, b10)) :
    wpX_write post (nI k, a1, a2, a3, a4, a5, a6, a7, a8, a9, a10) 0 (nI j) p2 p3 0 := by
  have c : (nI k).toNatClampNeg = k := nI_clamp (by omega)
  have v : vp_in (nI k) 40 := vp_in_nI hk (by omega)
  unfold wpX_write
  refine And.intro v (nm_r (e' := upd a1 k (nI j)) (by rw [c]) (And.intro v (nm_r (e' := upd a2 k p2) (by rw [c]) (br_f ?_ ?_))))
  · intro t
    rw [Int32.le_iff_toInt_le] at t
    rw [Int32.lt_iff_toInt_lt] at hp
    omega
  · refine And.intro v (nm_r (e' := upd a3 k 1) (by rw [c]) (And.intro v (nm_r (e' := upd a4 k p3) (by rw [c]) (And.intro v (nm_r (e' := upd a5 k 0) (by rw [c, dt_nar0]) (nm_r (nI_1 k) ?_))))))
    refine And.intro dt_v0 (And.intro dt_v0 (nm_r (e' := dt_or a6 k) (by rw [sb_cl0]; rfl) (br_f (by decide) (And.intro dt_v0 (And.intro dt_v0 (nm_r (e' := dt_or a7 k) (by rw [sb_cl0]; rfl) ?_))))))
    refine And.intro dt_v0 (And.intro dt_v0 (nm_r (e' := upd a8 0 (a8 0 + 1)) (by rw [sb_cl0]) (And.intro v (nm_r (e' := nI j) ?_ (And.intro v (br_t ?_ ?_))))))
    · rw [c, pk_us]
      exact dt_l0 j
    · rw [c, pk_us]
      exact hp
    · unfold wX_come_71
      exact HA _ H
/-- a revision with a parent -/
theorem dt_writeP {post : Int32 → St2 → Prop} {p : Nat} {p3 : Int32} (hk : k < 40) (hp : p < 40)
    (HD : ∀ Q : St2 → Prop, Q (nI (k + 1), upd a1 k (nI j), upd a2 k (nI p), upd a3 k (a3 p + 1), upd a4 k p3, upd a5 k 0, dt_or a6 k, dt_or a7 k, upd a8 0 (a8 0 + 1), c9, c10) →
      wpX_dropLeaf Q (nI (k + 1), upd a1 k (nI j), upd a2 k (nI p), upd a3 k (a3 p + 1), upd a4 k p3, upd a5 k 0, dt_or a6 k, dt_or a7 k, upd a8 0 (a8 0 + 1), a9, a10) (nI j) (nI p))
    (HA : ∀ Q : St2 → Prop, Q (nI (k + 1), upd a1 k (nI j), upd a2 k (nI p), upd a3 k (a3 p + 1), upd a4 k p3, upd a5 k 0, dt_or a6 k, dt_or a7 k, upd a8 0 (a8 0 + 1), b9, b10) →
      wpX_addLeaf Q (nI (k + 1), upd a1 k (nI j), upd a2 k (nI p), upd a3 k (a3 p + 1), upd a4 k p3, upd a5 k 0, dt_or a6 k, dt_or a7 k, upd a8 0 (a8 0 + 1), c9, c10) (nI j) (nI k))
    (H : post (nI k) (nI (k + 1), upd a1 k (nI j), upd a2 k (nI p), upd a3 k (a3 p + 1), upd a4 k p3, upd a5 k 0, dt_or a6 k, dt_or a7 k, upd a8 0 (a8 0 + 1), b9, b10)) :
    wpX_write post (nI k, a1, a2, a3, a4, a5, a6, a7, a8, a9, a10) 0 (nI j) (nI p) p3 0 := by
  have c : (nI k).toNatClampNeg = k := nI_clamp (by omega)
  have cp : (nI p).toNatClampNeg = p := nI_clamp (by omega)
  have v : vp_in (nI k) 40 := vp_in_nI hk (by omega)
  unfold wpX_write
  refine And.intro v (nm_r (e' := upd a1 k (nI j)) (by rw [c]) (And.intro v (nm_r (e' := upd a2 k (nI p)) (by rw [c]) (br_t (nI_pos' (by omega)) (And.intro (vp_in_nI hp (by omega)) ?_)))))
  refine And.intro v (nm_r (e' := upd a3 k (a3 p + 1)) (by rw [c, cp]) (And.intro v (nm_r (e' := upd a4 k p3) (by rw [c]) (And.intro v (nm_r (e' := upd a5 k 0) (by rw [c, dt_nar0]) (nm_r (nI_1 k) ?_))))))
  refine And.intro dt_v0 (And.intro dt_v0 (nm_r (e' := dt_or a6 k) (by rw [sb_cl0]; rfl) (br_f (by decide) (And.intro dt_v0 (And.intro dt_v0 (nm_r (e' := dt_or a7 k) (by rw [sb_cl0]; rfl) ?_))))))
  have e2 : upd a2 k (nI p) (nI k).toNatClampNeg = nI p := by rw [c, pk_us]
  refine And.intro dt_v0 (And.intro dt_v0 (nm_r (e' := upd a8 0 (a8 0 + 1)) (by rw [sb_cl0]) (And.intro v (nm_r (e' := nI j) ?_ (And.intro v (br_f ?_ (And.intro v ?_)))))))
  · rw [c, pk_us]
    exact dt_l0 j
  · rw [e2]
    exact nI_pos (by omega)
  · rw [e2]
    refine HD _ ?_
    unfold wX_come_71
    exact HA _ H
/-- the first revision of a document -/
theorem dt_put {post : Int32 → St2 → Prop} {b : Int32} (hj : j < 4) (hn : n < 40) (h9 : a9 j = 0) {r f : Int32} {u1 u2 u3 u4 u5 : Nat → Int32} {u6 u7 : Nat → Int64} {u8 u9 u10 : Nat → Int32}
    (HW : ∀ Q : Int32 → St2 → Prop, Q r (f, u1, u2, u3, u4, u5, u6, u7, u8, u9, u10) → wpX_write Q (n, a1, a2, a3, a4, a5, a6, a7, a8, a9, a10) 0 (nI j) (-1) b 0)
    (H : post r (f, u1, u2, u3, u4, u5, u6, u7, u8, u9, u10)) :
    wpX_put post (n, a1, a2, a3, a4, a5, a6, a7, a8, a9, a10) 0 (nI j) (-1) b := by
  unfold wpX_put
  refine dt_ref hj hn (br_t rfl (br_t rfl ?_))
  unfold wpX_winnerOf
  refine nm_r (dt_l0 j) (And.intro (vp_in_nI (by omega) (by omega)) (br_t ?_ (br_t (by decide) (br_t (by decide) ?_))))
  · rw [nI_clamp (show j < 2 ^ 31 by omega)]
    exact h9
  · unfold wX_put_61
    exact HW _ H
/-- a revision beside or below one that the site has -/
theorem dt_branch {post : Int32 → St2 → Prop} {p : Nat} {b : Int32} (hj : j < 4) (hpk : p < k) (hk : k < 40) (hd : a1 p = nI j)
    (hb : (((a6 0).toUInt64 >>> ((nI p).toInt64.toUInt64 &&& Int64.toUInt64 63)).toInt64 &&& 1) = 1)
    {r f : Int32} {u1 u2 u3 u4 u5 : Nat → Int32} {u6 u7 : Nat → Int64} {u8 u9 u10 : Nat → Int32}
    (HW : ∀ Q : Int32 → St2 → Prop, Q r (f, u1, u2, u3, u4, u5, u6, u7, u8, u9, u10) → wpX_write Q (nI k, a1, a2, a3, a4, a5, a6, a7, a8, a9, a10) 0 (nI j) (nI p) b 0)
    (H : post r (f, u1, u2, u3, u4, u5, u6, u7, u8, u9, u10)) :
    wpX_branch post (nI k, a1, a2, a3, a4, a5, a6, a7, a8, a9, a10) 0 (nI j) (nI p) b := by
  unfold wpX_branch
  refine dt_ref hj (nI_lt (b := 40) hk (by decide)) (br_t rfl (dt_has1 hpk (by omega) hd hb (br_f (by decide) ?_)))
  exact HW _ H
/-- no such revision -/
theorem dt_branch0 {post : Int32 → St2 → Prop} {p b : Int32} (hj : j < 4) (hn : n < 40) (hp : p < 0 ∨ n ≤ p)
    (H : post (-5) (n, a1, a2, a3, a4, a5, a6, a7, a8, a9, a10)) :
    wpX_branch post (n, a1, a2, a3, a4, a5, a6, a7, a8, a9, a10) 0 (nI j) p b := by
  unfold wpX_branch
  exact dt_ref hj hn (br_t rfl (dt_has0 hp (br_t rfl H)))
end
end
section
/-! ===== the questions ===== -/
section
variable {n : Int32} {a1 a2 a3 a4 a5 : Nat → Int32} {a6 a7 : Nat → Int64} {a8 a9 a10 : Nat → Int32} {j : Nat} {Q : Int32 → Prop}
theorem dt_winner0 {w : Int32} (hj : j < 4) (h9 : ¬ a9 j = 0) (hl : a10 (j * 40) = w) (h : Q w) :
    wpX_winner Q (n, a1, a2, a3, a4, a5, a6, a7, a8, a9, a10) 0 (nI j) := by
  unfold wpX_winner
  refine dt_site0 (br_t rfl (dt_doc hj (br_t rfl ?_)))
  unfold wpX_winnerOf
  refine nm_r (dt_l0 j) (And.intro (vp_in_nI (by omega) (by omega)) (br_f ?_ (And.intro ?_ ?_)))
  · rw [nI_clamp (show j < 2 ^ 31 by omega)]
    exact h9
  · rw [dt_ix0]
    exact vp_in_nI (by omega) (by omega)
  · show Q (a10 (nI j * 40).toNatClampNeg)
    rw [dt_ix0, nI_clamp (show j * 40 < 2 ^ 31 by omega), hl]
    exact h
theorem dt_winner1 (hj : j < 4) (h9 : a9 (4 + j) = 0) (h : Q (-5)) :
    wpX_winner Q (n, a1, a2, a3, a4, a5, a6, a7, a8, a9, a10) 1 (nI j) := by
  unfold wpX_winner
  refine dt_site1 (br_t rfl (dt_doc hj (br_t rfl ?_)))
  unfold wpX_winnerOf
  refine nm_r (dt_l1 j) (And.intro (vp_in_nI (by omega) (by omega)) (br_t ?_ h))
  rw [nI_clamp (show 4 + j < 2 ^ 31 by omega)]
  exact h9
theorem dt_open1 {w : Nat} (hj : j < 8) (hw : w < 40) (h9 : a9 j = 1) (hl : a10 (j * 40) = nI w) (h5 : a5 w = 0) (h : Q 1) :
    wpX_openLeaves Q (n, a1, a2, a3, a4, a5, a6, a7, a8, a9, a10) (nI j) := by
  have c : (nI j).toNatClampNeg = j := nI_clamp (by omega)
  have v : vp_in (nI j) 8 := vp_in_nI hj (by omega)
  have i0 : (nI j * 40 + 0).toNatClampNeg = j * 40 := dt_cl (k := 0) hj (by omega)
  refine Exists.intro 2 (And.intro v (br_f ?_ (And.intro (dt_in (k := 0) hj (by omega)) (And.intro ?_ (br_t ?_ (nm_r (nI_1 0) (And.intro v (br_t ?_ h))))))))
  · rw [c, h9]
    decide
  · rw [i0, hl]
    exact vp_in_nI hw (by omega)
  · rw [i0, hl, nI_clamp (show w < 2 ^ 31 by omega)]
    exact h5
  · rw [c, h9]
    decide
theorem dt_open2 {w w2 : Nat} (hj : j < 8) (hw : w < 40) (hw2 : w2 < 40) (h9 : a9 j = 2) (hl : a10 (j * 40) = nI w) (hl2 : a10 (j * 40 + 1) = nI w2) (h5 : a5 w = 0) (h52 : a5 w2 = 0) (h : Q 2) :
    wpX_openLeaves Q (n, a1, a2, a3, a4, a5, a6, a7, a8, a9, a10) (nI j) := by
  have c : (nI j).toNatClampNeg = j := nI_clamp (by omega)
  have v : vp_in (nI j) 8 := vp_in_nI hj (by omega)
  have i0 : (nI j * 40 + 0).toNatClampNeg = j * 40 := dt_cl (k := 0) hj (by omega)
  have i1 : (nI j * 40 + nI (0 + 1)).toNatClampNeg = j * 40 + 1 := dt_cl (k := 1) hj (by omega)
  refine Exists.intro 3 (And.intro v (br_f ?_ (And.intro (dt_in (k := 0) hj (by omega)) (And.intro ?_ (br_t ?_ (nm_r (nI_1 0) (And.intro v (br_f ?_ (And.intro (dt_in (k := 1) hj (by omega)) (And.intro ?_ (br_t ?_ (nm_r (nI_1 1) (And.intro v (br_t ?_ h))))))))))))))
  · rw [c, h9]
    decide
  · rw [i0, hl]
    exact vp_in_nI hw (by omega)
  · rw [i0, hl, nI_clamp (show w < 2 ^ 31 by omega)]
    exact h5
  · rw [c, h9]
    decide
  · rw [i1, hl2]
    exact vp_in_nI hw2 (by omega)
  · rw [i1, hl2, nI_clamp (show w2 < 2 ^ 31 by omega)]
    exact h52
  · rw [c, h9]
    decide
theorem dt_conflicts1 (hj : j < 4) (HO : ∀ P : Int32 → Prop, P 1 → wpX_openLeaves P (n, a1, a2, a3, a4, a5, a6, a7, a8, a9, a10) (nI j)) (h : Q 0) :
    wpX_conflicts Q (n, a1, a2, a3, a4, a5, a6, a7, a8, a9, a10) 0 (nI j) := by
  unfold wpX_conflicts
  refine dt_site0 (br_t rfl (dt_doc hj (br_t rfl ?_)))
  rw [dt_l0]
  exact HO _ (br_t (by decide) h)
theorem dt_conflicts2 (hj : j < 4) (HO : ∀ P : Int32 → Prop, P 2 → wpX_openLeaves P (n, a1, a2, a3, a4, a5, a6, a7, a8, a9, a10) (nI j)) (h : Q 1) :
    wpX_conflicts Q (n, a1, a2, a3, a4, a5, a6, a7, a8, a9, a10) 0 (nI j) := by
  unfold wpX_conflicts
  refine dt_site0 (br_t rfl (dt_doc hj (br_t rfl ?_)))
  rw [dt_l0]
  refine HO _ (br_f (by decide) ?_)
  rw [show (2 : Int32) - 1 = 1 from by decide]
  exact h
theorem dt_conflict1 (hj : j < 4) (HO : ∀ P : Int32 → Prop, P 1 → wpX_openLeaves P (n, a1, a2, a3, a4, a5, a6, a7, a8, a9, a10) (nI j)) (h : Q (-5)) :
    wpX_conflict Q (n, a1, a2, a3, a4, a5, a6, a7, a8, a9, a10) 0 (nI j) 0 := by
  unfold wpX_conflict
  refine dt_site0 (br_t rfl (dt_doc hj (br_t rfl (nm_r (dt_l0 j) ?_))))
  exact HO _ (br_f (by decide) (br_f (by decide) h))
theorem dt_conflict2 {x : Int32} (hj : j < 4) (HO : ∀ P : Int32 → Prop, P 2 → wpX_openLeaves P (n, a1, a2, a3, a4, a5, a6, a7, a8, a9, a10) (nI j)) (hl : a10 (j * 40 + 1) = x) (h : Q x) :
    wpX_conflict Q (n, a1, a2, a3, a4, a5, a6, a7, a8, a9, a10) 0 (nI j) 0 := by
  have e : nI j * 40 + 0 + 1 = nI (j * 40 + 1) := by
    rw [show nI j * 40 + 0 = nI (j * 40) from dt_ix j 0]
    exact nI_1 _
  unfold wpX_conflict
  refine dt_site0 (br_t rfl (dt_doc hj (br_t rfl (nm_r (dt_l0 j) ?_))))
  refine HO _ (br_f (by decide) (br_t (by decide) (And.intro ?_ ?_)))
  · rw [e]
    exact vp_in_nI (by omega) (by omega)
  · rw [e, nI_clamp (show j * 40 + 1 < 2 ^ 31 by omega), hl]
    exact h
theorem dt_leaves {x : Int32} (hj : j < 4) (h9 : a9 j = x) (h : Q x) :
    wpX_leaves Q (n, a1, a2, a3, a4, a5, a6, a7, a8, a9, a10) 0 (nI j) := by
  unfold wpX_leaves
  refine dt_site0 (br_t rfl (dt_doc hj (br_t rfl ?_)))
  rw [dt_l0, nI_clamp (show j < 2 ^ 31 by omega), h9]
  exact And.intro (vp_in_nI (by omega) (by omega)) h
/-- there is no revision 2 -/
theorem dt_common0 (h : Q (-5)) : wpX_common Q (2, a1, a2, a3, a4, a5, a6, a7, a8, a9, a10) 1 2 :=
  br_f (by decide) (br_f (by decide) (br_f (by decide) (br_f (by decide) h)))
theorem dt_v40 {x : Nat} (h : x < 40) : vp_in (nI x) 40 := vp_in_nI h (by omega)
theorem dt_c1 : (1 : Int32).toNatClampNeg = 1 := by decide
theorem dt_c2 : (2 : Int32).toNatClampNeg = 2 := by decide
/-- revision 2 below revision 1 -/
theorem dt_common1 (h31 : a3 1 = 2) (h32 : a3 2 = 3) (h22 : a2 2 = 1) (h : Q 1) : wpX_common Q (3, a1, a2, a3, a4, a5, a6, a7, a8, a9, a10) 1 2 := by
  have v1 : vp_in 1 40 := dt_v40 (x := 1) (by omega)
  have v2 : vp_in 2 40 := dt_v40 (x := 2) (by omega)
  refine br_f (by decide) (br_f (by decide) (br_f (by decide) (br_t (by decide) (Exists.intro 2 (br_f (by decide) (br_f (by decide) (br_f (by decide) (br_f (by decide) (And.intro v1 (And.intro v2 (br_t ?_ (And.intro v2 (nm_r (e' := 1) ?_ (nm_r (nI_1 0) (br_f (by decide) (br_t rfl (br_t rfl (br_f (by decide) h))))))))))))))))))
  · rw [dt_c1, dt_c2, h31, h32]
    decide
  · rw [dt_c2, h22]
/-- revisions 1 and 2 below revision 0 -/
theorem dt_common2 (h30 : a3 0 = 1) (h31 : a3 1 = 2) (h32 : a3 2 = 2) (h21 : a2 1 = 0) (h22 : a2 2 = 0) (h : Q 0) : wpX_common Q (3, a1, a2, a3, a4, a5, a6, a7, a8, a9, a10) 1 2 := by
  have v0 : vp_in 0 40 := dt_v40 (x := 0) (by omega)
  have v1 : vp_in 1 40 := dt_v40 (x := 1) (by omega)
  have v2 : vp_in 2 40 := dt_v40 (x := 2) (by omega)
  refine br_f (by decide) (br_f (by decide) (br_f (by decide) (br_t (by decide) (Exists.intro 3 (br_f (by decide) (br_f (by decide) (br_f (by decide) (br_f (by decide) (And.intro v1 (And.intro v2 (br_f ?_ (And.intro v1 (nm_r (e' := 0) ?_ (nm_r (nI_1 0) ?_))))))))))))))
  · rw [dt_c1, dt_c2, h31, h32]
    decide
  · rw [dt_c1, h21]
  · refine br_f (by decide) (br_f (by decide) (br_f (by decide) (br_f (by decide) (And.intro v0 (And.intro v2 (br_t ?_ (And.intro v2 (nm_r (e' := 0) ?_ (nm_r (nI_1 1) (br_f (by decide) (br_t rfl (br_t rfl (br_f (by decide) h)))))))))))))
    · rw [sb_cl0, dt_c2, h30, h32]
      decide
    · rw [dt_c2, h22]
end
/-! ===== what the law asks at the end: one leaf, two leaves ===== -/
section
variable {n : Int32} {a1 a2 a3 a4 a5 : Nat → Int32} {a6 a7 : Nat → Int64} {a8 a9 a10 : Nat → Int32} {j : Nat} {mc ms kc ks : Nat}
theorem dt_end1 {w : Nat} {x7 y : Int32} (hj : j < 4) (hw : w < 40) (h9 : a9 j = 1) (h9' : a9 (4 + j) = 0) (hl : a10 (j * 40) = nI w) (h5 : a5 w = 0)
    (HC : ∀ P : Int32 → Prop, P y → wpX_common P (n, a1, a2, a3, a4, a5, a6, a7, a8, a9, a10) 1 2) (hy : (x7 = 0 ∧ y = -5) ∨ (¬ x7 = 0 ∧ y = 1)) :
    wL_lawOf_117 (fun r _ => r = 1) mc ms (nI j) x7 0 (nI w) kc ks n a1 a2 a3 a4 a5 a6 a7 a8 a9 a10 := by
  have HO : ∀ P : Int32 → Prop, P 1 → wpX_openLeaves P (n, a1, a2, a3, a4, a5, a6, a7, a8, a9, a10) (nI j) := fun P h => dt_open1 (by omega) hw h9 hl h5 h
  unfold wL_lawOf_117
  refine dt_winner0 hj (by rw [h9]; decide) hl (br_t rfl (dt_conflicts1 hj HO (br_t rfl ?_)))
  unfold wL_lawOf_150
  refine br_t rfl (dt_conflict1 hj HO (br_t rfl ?_))
  unfold wL_lawOf_176
  refine br_t rfl (dt_leaves hj h9 (br_t rfl ?_))
  unfold wL_lawOf_199
  refine br_t rfl (dt_winner1 hj h9' (br_t rfl (HC _ ?_)))
  rcases hy with ⟨h7, ey⟩ | ⟨h7, ey⟩
  · exact br_t h7 (br_t rfl (br_t ey rfl))
  · exact br_f h7 (br_t ey rfl)
theorem dt_end2 {w w2 : Nat} (hj : j < 4) (hw : w < 40) (hw2 : w2 < 40) (h9 : a9 j = 2) (h9' : a9 (4 + j) = 0) (hl : a10 (j * 40) = nI w) (hl2 : a10 (j * 40 + 1) = nI w2) (h5 : a5 w = 0) (h52 : a5 w2 = 0)
    (h3 : nI w2 = 3 - nI w)
    (HC : ∀ P : Int32 → Prop, P 0 → wpX_common P (n, a1, a2, a3, a4, a5, a6, a7, a8, a9, a10) 1 2) :
    wL_lawOf_117 (fun r _ => r = 1) mc ms (nI j) 0 1 (nI w) kc ks n a1 a2 a3 a4 a5 a6 a7 a8 a9 a10 := by
  have HO : ∀ P : Int32 → Prop, P 2 → wpX_openLeaves P (n, a1, a2, a3, a4, a5, a6, a7, a8, a9, a10) (nI j) := fun P h => dt_open2 (by omega) hw hw2 h9 hl hl2 h5 h52 h
  unfold wL_lawOf_117
  refine dt_winner0 hj (by rw [h9]; decide) hl (br_t rfl (dt_conflicts2 hj HO (br_f (by decide) ?_)))
  unfold wL_lawOf_150
  refine br_t rfl (dt_conflict2 hj HO hl2 (br_f (by decide) ?_))
  unfold wL_lawOf_176
  refine br_t h3 (dt_leaves hj h9 (br_f (by decide) ?_))
  unfold wL_lawOf_199
  exact br_t rfl (dt_winner1 hj h9' (br_t rfl (HC _ (br_t rfl (br_f (by decide) (br_t rfl rfl))))))
end
end
section
/-! ===== the law ===== -/
section
variable {j : Nat} {mc ms kc ks : Nat} {a b : Int32}
/-- the arrays after put and the first branch: leaf counts, leaves -/
def dt_n9 (j : Nat) : Nat → Int32 := upd (upd (upd (fun _ => 0) j 1) j 0) j 1
def dt_n10 (j : Nat) : Nat → Int32 := upd (upd (fun _ => 0) (j * 40) (nI 0)) (j * 40) (nI 1)
def dt_n1 (j : Nat) : Nat → Int32 := upd (upd (fun _ => 0) 0 (nI j)) 1 (nI j)
def dt_n2 : Nat → Int32 := upd (upd (fun _ => 0) 0 (-1)) 1 (nI 0)
def dt_n3 : Nat → Int32 := upd (upd (fun _ => 0) 0 1) 1 (upd (fun _ => 0) 0 1 0 + 1)
def dt_n4 (a : Int32) : Nat → Int32 := upd (upd (fun _ => 0) 0 5) 1 a
def dt_n5 : Nat → Int32 := upd (upd (fun _ => 0) 0 0) 1 0
def dt_n6 : Nat → Int64 := dt_or (dt_or (fun _ => 0) 0) 1
def dt_n8 : Nat → Int32 := upd (upd (fun _ => 0) 0 ((fun _ => 0) 0 + 1)) 0 (upd (fun _ => 0) 0 ((fun _ => 0) 0 + 1) 0 + 1)
theorem dt_9j : dt_n9 j j = 1 := pk_us
theorem dt_9s : dt_n9 j (4 + j) = 0 := by
  have h : 4 + j ≠ j := by omega
  unfold dt_n9
  rw [pk_un h, pk_un h, pk_un h]
theorem dt_10j : dt_n10 j (j * 40) = nI 1 := pk_us
theorem dt_put1 {post : Int32 → St2 → Prop} (hj : j < 4)
    (H : post (nI 0) (nI 1, upd (fun _ => 0) 0 (nI j), upd (fun _ => 0) 0 (-1), upd (fun _ => 0) 0 1, upd (fun _ => 0) 0 5, upd (fun _ => 0) 0 0, dt_or (fun _ => 0) 0, dt_or (fun _ => 0) 0, upd (fun _ => 0) 0 ((fun _ => 0) 0 + 1), upd (fun _ => 0) j 1, upd (fun _ => 0) (j * 40) (nI 0))) :
    wpX_put post (nI 0, (fun _ => 0), (fun _ => 0), (fun _ => 0), (fun _ => 0), (fun _ => 0), (fun _ => 0), (fun _ => 0), (fun _ => 0), (fun _ => 0), (fun _ => 0)) 0 (nI j) (-1) 5 :=
  dt_put hj (by decide) rfl (fun Q h => dt_writeN (k := 0) (by omega) (by decide) (fun P g => dt_add0 (by omega) rfl g) h) H
theorem dt_branch1 {post : Int32 → St2 → Prop} (hj : j < 4)
    (H : post (nI 1) (nI 2, dt_n1 j, dt_n2, dt_n3, dt_n4 a, dt_n5, dt_n6, dt_n6, dt_n8, dt_n9 j, dt_n10 j)) :
    wpX_branch post (nI 1, upd (fun _ => 0) 0 (nI j), upd (fun _ => 0) 0 (-1), upd (fun _ => 0) 0 1, upd (fun _ => 0) 0 5, upd (fun _ => 0) 0 0, dt_or (fun _ => 0) 0, dt_or (fun _ => 0) 0, upd (fun _ => 0) 0 ((fun _ => 0) 0 + 1), upd (fun _ => 0) j 1, upd (fun _ => 0) (j * 40) (nI 0)) 0 (nI j) (nI 0) a :=
  dt_branch (k := 1) (p := 0) hj (by omega) (by omega) rfl (by decide +kernel)
    (fun Q h => dt_writeP (k := 1) (p := 0) (by omega) (by omega) (fun P g => dt_dropH (by omega) pk_us pk_us g) (fun P g => dt_add0 (by omega) pk_us g) h) H
/-- the second branch, below revision 1 -/
theorem dt_deep {post : Int32 → St2 → Prop} (hj : j < 4)
    (H : ∀ b8, post (nI 2) (nI 3, upd (dt_n1 j) 2 (nI j), upd dt_n2 2 (nI 1), upd dt_n3 2 (dt_n3 1 + 1), upd (dt_n4 a) 2 b, upd dt_n5 2 0, dt_or dt_n6 2, dt_or dt_n6 2, b8, upd (upd (dt_n9 j) j 0) j 1, upd (dt_n10 j) (j * 40) (nI 2))) :
    wpX_branch post (nI 2, dt_n1 j, dt_n2, dt_n3, dt_n4 a, dt_n5, dt_n6, dt_n6, dt_n8, dt_n9 j, dt_n10 j) 0 (nI j) (nI 1) b :=
  dt_branch (k := 2) (p := 1) hj (by omega) (by omega) rfl (by decide +kernel)
    (fun Q h => dt_writeP (k := 2) (p := 1) (by omega) (by omega) (fun P g => dt_dropH (by omega) dt_9j dt_10j g) (fun P g => dt_add0 (by omega) pk_us g) h) (H _)
/-- the second branch, beside revision 1: it stands behind it, if its body is less .. -/
theorem dt_twoL {post : Int32 → St2 → Prop} (hj : j < 4) (hab : b < a)
    (H : ∀ b8, post (nI 2) (nI 3, upd (dt_n1 j) 2 (nI j), upd dt_n2 2 (nI 0), upd dt_n3 2 (dt_n3 0 + 1), upd (dt_n4 a) 2 b, upd dt_n5 2 0, dt_or dt_n6 2, dt_or dt_n6 2, b8, upd (upd (dt_n9 j) j 1) j 2, upd (upd (dt_n10 j) (j * 40) (nI 1)) (j * 40 + 1) (nI 2))) :
    wpX_branch post (nI 2, dt_n1 j, dt_n2, dt_n3, dt_n4 a, dt_n5, dt_n6, dt_n6, dt_n8, dt_n9 j, dt_n10 j) 0 (nI j) (nI 0) b :=
  dt_branch (k := 2) (p := 0) hj (by omega) (by omega) rfl (by decide +kernel)
    (fun Q h => dt_writeP (k := 2) (p := 0) (by omega) (by omega) (fun P g => dt_dropM (l := nI 1) (by omega) dt_9j dt_10j (by decide) g)
      (fun P g => dt_add1L (l := nI 1) (by omega) pk_us pk_us (fun R r => dt_wins (by omega) (by omega) (by decide) (by decide) (by omega) (fun t => absurd hab t) (fun _ => r)) g) h) (H _)
/-- .. or ahead of it -/
theorem dt_twoW {post : Int32 → St2 → Prop} (hj : j < 4) (hab : ¬ b < a)
    (H : ∀ b8, post (nI 2) (nI 3, upd (dt_n1 j) 2 (nI j), upd dt_n2 2 (nI 0), upd dt_n3 2 (dt_n3 0 + 1), upd (dt_n4 a) 2 b, upd dt_n5 2 0, dt_or dt_n6 2, dt_or dt_n6 2, b8, upd (upd (dt_n9 j) j 1) j 2, upd (upd (upd (dt_n10 j) (j * 40) (nI 1)) (j * 40 + 1) (nI 1)) (j * 40) (nI 2))) :
    wpX_branch post (nI 2, dt_n1 j, dt_n2, dt_n3, dt_n4 a, dt_n5, dt_n6, dt_n6, dt_n8, dt_n9 j, dt_n10 j) 0 (nI j) (nI 0) b :=
  dt_branch (k := 2) (p := 0) hj (by omega) (by omega) rfl (by decide +kernel)
    (fun Q h => dt_writeP (k := 2) (p := 0) (by omega) (by omega) (fun P g => dt_dropM (l := nI 1) (by omega) dt_9j dt_10j (by decide) g)
      (fun P g => dt_add1W (l := nI 1) (by omega) pk_us pk_us (fun R r => dt_wins (by omega) (by omega) (by decide) (by decide) (by omega) (fun _ => r) (fun t => absurd t hab)) g) h) (H _)
/-- the law from the second branch on: no such parent -/
theorem dt_tail0 {p : Int32} (hj : j < 4) (h0 : ¬ p = 0) (h1 : ¬ p = 1) :
    wL_lawOf_51 (fun r _ => r = 1) mc ms a b p (nI j) (-5) kc ks (nI 2) (dt_n1 j) dt_n2 dt_n3 (dt_n4 a) dt_n5 dt_n6 dt_n6 dt_n8 (dt_n9 j) (dt_n10 j) := by
  have hp : p < 0 ∨ nI 2 ≤ p := by
    rcases pk_ix p (n := 2) (by omega) with h | h | ⟨i, hi, e⟩
    · exact Or.inl h
    · exact Or.inr h
    · exfalso
      have : i = 0 ∨ i = 1 := by omega
      rcases this with z | z
      · subst z
        exact h0 e
      · subst z
        exact h1 e
  unfold wL_lawOf_51
  refine dt_branch0 hj (by decide) hp (br_t rfl (br_f h1 ?_))
  unfold wL_lawOf_80
  refine br_f h0 ?_
  unfold wL_lawOf_91
  refine br_t rfl (br_t rfl ?_)
  unfold wL_lawOf_116
  exact dt_end1 (w := 1) hj (by omega) dt_9j dt_9s dt_10j (by decide) (fun P h => dt_common0 h) (Or.inl ⟨rfl, rfl⟩)
/-- .. below revision 1 -/
theorem dt_tail1 (hj : j < 4) :
    wL_lawOf_51 (fun r _ => r = 1) mc ms a b (nI 1) (nI j) 2 kc ks (nI 2) (dt_n1 j) dt_n2 dt_n3 (dt_n4 a) dt_n5 dt_n6 dt_n6 dt_n8 (dt_n9 j) (dt_n10 j) := by
  unfold wL_lawOf_51
  refine dt_deep hj (fun b8 => br_t rfl (br_t rfl ?_))
  unfold wL_lawOf_80
  refine br_f (by decide) ?_
  unfold wL_lawOf_91
  refine br_f (by decide) ?_
  exact dt_end1 (w := 2) hj (by omega) pk_us (by have h : 4 + j ≠ j := by omega
                                                 rw [pk_un h, pk_un h]; exact dt_9s) pk_us (by decide) (fun P h => dt_common1 (by decide) (by decide) (by decide) h) (Or.inr ⟨by decide, rfl⟩)
/-- .. beside revision 1 -/
theorem dt_tail2 (hj : j < 4) :
    wL_lawOf_51 (fun r _ => r = 1) mc ms a b (nI 0) (nI j) 2 kc ks (nI 2) (dt_n1 j) dt_n2 dt_n3 (dt_n4 a) dt_n5 dt_n6 dt_n6 dt_n8 (dt_n9 j) (dt_n10 j) := by
  have hs : upd (upd (dt_n9 j) j 1) j 2 (4 + j) = 0 := by
    have h : 4 + j ≠ j := by omega
    rw [pk_un h, pk_un h]
    exact dt_9s
  have hn : j * 40 ≠ j * 40 + 1 := by omega
  have hn' : j * 40 + 1 ≠ j * 40 := by omega
  unfold wL_lawOf_51
  by_cases hab : b < a
  · refine dt_twoL hj hab (fun b8 => br_t rfl (br_f (by decide) ?_))
    unfold wL_lawOf_80
    refine br_t rfl ?_
    unfold wL_lawOf_91
    refine br_t rfl (br_f (by decide) (br_t hab ?_))
    unfold wL_lawOf_116
    exact dt_end2 (w := 1) (w2 := 2) hj (by omega) (by omega) pk_us hs (by rw [pk_un hn, pk_us]) pk_us (by decide) (by decide) (by decide) (fun P h => dt_common2 (by decide) (by decide) (by decide) (by decide) (by decide) h)
  · refine dt_twoW hj hab (fun b8 => br_t rfl (br_f (by decide) ?_))
    unfold wL_lawOf_80
    refine br_t rfl ?_
    unfold wL_lawOf_91
    refine br_t rfl (br_f (by decide) (br_f hab ?_))
    exact dt_end2 (w := 2) (w2 := 1) hj (by omega) (by omega) pk_us hs pk_us (by rw [pk_un hn', pk_us]) (by decide) (by decide) (by decide) (fun P h => dt_common2 (by decide) (by decide) (by decide) (by decide) (by decide) h)
end
theorem dt_lawOf (a b d p : Int32) : wpL_lawOf (fun r _ => r = 1) 11 545 () a b d p := by
  obtain ⟨j, hj, e⟩ := pk_andE d (m := 3) 2 (by decide)
  unfold wpL_lawOf
  refine ⟨by omega, by omega, 10, 534, by omega, by omega, ?_⟩
  unfold wpX_init
  refine ⟨by omega, by omega, by omega, by omega, by omega, by omega, by omega, by omega, by omega, by omega, by omega, by omega, by omega, by omega, by omega, by omega, by omega, by omega, by omega, by omega, ?_⟩
  refine nm_r e ?_
  refine dt_put1 hj ?_
  refine dt_branch1 hj ?_
  refine br_c (fun h => ?_) (fun h0 => br_c (fun h => ?_) (fun h1 => ?_))
  · subst h
    exact dt_tail2 hj
  · subst h
    exact dt_tail1 hj
  · exact dt_tail0 hj h0 h1
theorem dt_cell {Q : Int32 → Prop} {xs : Nat → Int32} {L : Nat} {k : Nat} (hL : L ≤ 4) (hk : k < 4) (h : ∀ x, Q x) : wpL_cellAt Q L xs () (nI k) :=
  pk_le L k (fun _ => h _) (fun z => And.intro (vp_in_nI z (by omega)) (h _))
theorem i_vc (xs : Nat → Int32) (L : Nat) (hL : L ≤ 4) : wpL_law (fun r => r = 1) L xs := by
  unfold wpL_law
  exact dt_cell (k := 0) hL (by omega) (fun a => dt_cell (k := 1) hL (by omega) (fun b => dt_cell (k := 2) hL (by omega) (fun d => dt_cell (k := 3) hL (by omega) (fun p => ⟨11, 545, by omega, by omega, dt_lawOf a b d p⟩))))
end
