set_option maxRecDepth 16384
section
section Tx
variable {μ μ' μ'' : ab_M} {d : Nat} {S : SF} {N : NF} {m s n : Nat} {h h' : He} {al : Nat → Bool} {ε ε' : Nat → Nat} {uM pM r j e p q lv lv' t w at' data ps o dp nr nr' z κ1 κ φ ρ pos dt : Nat} {X : RsvT} {F : Nat → Prop} {D : Nat → Nat} {v k last : Int} {l : List Int} {T : Nat → Int} {σ σ' : Sx} {rec : Rx}
def frPk (μ μ' : ab_M) : Prop := ∀ a i, ¬ mine 12 a i → a ≠ 7860 → (a ≠ 7756 ∨ i ≠ 17 ∧ i ≠ 18 ∧ i ≠ 130 ∧ i ≠ 191 ∧ i ≠ 192 ∧ (i < 205 ∨ 210 < i) ∧ (i < 216 ∨ 232 < i)) → μ' a i = μ a i
theorem frPk.trans (f : frPk μ μ') (g : frPk μ' μ'') : frPk μ μ'' := sorry
theorem frPk.tx (f : frPk μ μ') : frTx lv μ μ' := sorry
theorem frH.pk (f : frH 12 μ μ') : frPk μ μ' := sorry
theorem frXa.pk (f : frXa μ μ') : frPk μ μ' := sorry
theorem frXb.pk (f : frXb pM μ μ') : frPk μ μ' := sorry
theorem up_idv {a i : Nat} (h : μ a i = v) : ab_up μ a i v = μ := sorry
theorem TDf.keyN {z0 v0 : Int} {t : Nat} (x : TDf X F S N 12 s μ h al ε uM pM t j e v0 [] z0) : TDf X F S N 12 s (ab_up μ 7876 e v) h al ε uM pM t j e v [] z0 := sorry
theorem TDf.keyB {z0 v0 : Int} {fi t : Nat} {l0 : List Int} (x : TDf X F S N m s μ h al ε uM pM t j e v0 l0 z0) (hl : fi + l.length ≤ pM) (hb : tBy μ 7879 (9000 * m + fi) l) : TDf X F S N m s (ab_up (ab_up μ 7877 e (fi : Int)) 7878 e (l.length : Int)) h al ε uM pM t j e v0 l z0 := sorry
theorem tw_pk (hT : ∀ k, k < 8 * n → 0 ≤ T k ∧ T k < 256) (x : TXs X F S N T n s μ σ ε) (hr : r < σ.1.1) (ht : σ.1.2.1 r = t) (hj : j < fCt S t) (m3 : S 11 t j = 3) (hat : pos + dt + ps ≤ n) (fr1 : μ 7912 lv = (ε r : Int)) (fr2 : μ 7919 lv = (q : Int)) (l6 : lv < 60) (iv : ivX true κ1 (κ + 1) φ 0 σ) :
    (∀ f, dKy S T n t j pos dt ps σ.2.2.2.1 = .inl f → FtR (ab_run wt (d + 11) 259 0 [(2, 7756), (0, 12), (0, lv), (0, (fX s t j)), (0, pos), (0, dt), (0, ps), (3, 0), (3, 0), (3, 0), (3, 0), (3, 0), (3, 0), (3, 0), (3, 0), (3, 0), (3, 0)] [] μ) μ f) ∧ ∀ v l w', dKy S T n t j pos dt ps σ.2.2.2.1 = .inr (v, l, w') → ∃ (μ1 : ab_M) (pM1 fi : Nat), (ab_run wt (d + 11) 259 0 [(2, 7756), (0, 12), (0, lv), (0, (fX s t j)), (0, pos), (0, dt), (0, ps), (3, 0), (3, 0), (3, 0), (3, 0), (3, 0), (3, 0), (3, 0), (3, 0), (3, 0), (3, 0)] [] μ) = (ab_run wt (d + 11) 259 205 [(2, 7756), (0, 12), (0, lv), (0, (fX s t j)), (0, pos), (0, dt), (0, ps), (0, (ε r)), (0, q), (0, (((4600 * 12 + σ.2.1 : Nat) : Int))), (3, 0), (0, ((if kBits (S 12 t j) = 0 then ((dPi S t j : Nat) : Int) else -2))), (3, 0), (3, 0), (3, 0), (3, 0), (3, 0)] [] μ1) ∧ tXw μ1 n T w' ∧ μ1 7756 202 = (σ.2.2.2.2.1 : Int) ∧ TDf X F (upS S σ.2.2.1) N 12 s μ1 σ.1 tr1 ε (σ.2.1 + 1) pM1 t j (4600 * 12 + σ.2.1) v l (if kBits (S 12 t j) = 0 then 0 else kCut (S 12 t j) (bt T pos dt (mpS S t j) (kBits (S 12 t j)).toNat).toInt) ∧ pM1 ≤ σ.2.2.2.2.2 + l.length ∧ (μ1 7876 (4600 * 12 + σ.2.1) = v ∧ μ1 7877 (4600 * 12 + σ.2.1) = (fi : Int) ∧ μ1 7878 (4600 * 12 + σ.2.1) = (l.length : Int) ∧ fi + l.length ≤ pM1 ∧ tBy μ1 7879 (9000 * 12 + fi) l) ∧ frPk μ μ1 ∧ frKu μ μ1 := sorry
end Tx
end
section
section Tx
variable {μ μ' μ'' : ab_M} {d : Nat} {S : SF} {N : NF} {m s n : Nat} {h h' : He} {al : Nat → Bool} {ε ε' : Nat → Nat} {uM pM r j e p q lv lv' t w at' data ps o dp nr nr' z κ1 κ φ ρ pos dt c0 : Nat} {X : RsvT} {F : Nat → Prop} {D : Nat → Nat} {v k : Int} {l : List Int} {T : Nat → Int} {σ σ' : Sx} {rec : Rx}
theorem dFR_d : dFR T n p (dp + 1) w = match dFR T n p 0 w with
    | .inl f => .inl f
    | .inr y => if 12 < dp + 1 then .inl (6, 8 * (p : Int)) else .inr y := sorry
theorem tw_aR {G : ab_M → ab_R} (c : tXw μ n T w) (hp : p < n) (nz : wdT T p ≠ 0) :
    (∀ f, dFR T n p 0 w = .inl f → FtR (ab_cal (ab_run wt (d + 2) 1 0 [(2, 7756), (0, p), (0, 0), (3, 0), (3, 0), (3, 0), (3, 0), (3, 0), (3, 0)] [] μ) 0 (fun r1 μ1 => some ((4, r1), μ1)) (fun r1 μ1 => if r1 = 0 then some ((0, 0), μ1) else ab_cal (ab_run wt (d + 2) 321 0 [(2, 7756), (1, (μ1 7756 232)), (3, 0), (0, p), (3, 0), (3, 0)] [] μ1) 0 (fun r2 μ2 => some ((4, r2), μ2)) (fun r2 μ2 => if r2 = 0 then some ((0, 0), μ2) else G μ2))) μ f) ∧ ∀ b dt ps w', dFR T n p 0 w = .inr (b, dt, ps, w') → ∃ μ1, ab_cal (ab_run wt (d + 2) 1 0 [(2, 7756), (0, p), (0, 0), (3, 0), (3, 0), (3, 0), (3, 0), (3, 0), (3, 0)] [] μ) 0 (fun r1 μ1 => some ((4, r1), μ1)) (fun r1 μ1 => if r1 = 0 then some ((0, 0), μ1) else ab_cal (ab_run wt (d + 2) 321 0 [(2, 7756), (1, (μ1 7756 232)), (3, 0), (0, p), (3, 0), (3, 0)] [] μ1) 0 (fun r2 μ2 => some ((4, r2), μ2)) (fun r2 μ2 => if r2 = 0 then some ((0, 0), μ2) else G μ2)) = G μ1 ∧ tXw μ1 n T w' ∧ μ1 7756 226 = (b : Int) ∧ μ1 7756 227 = (dt : Int) ∧ μ1 7756 228 = (ps : Int) ∧ frXa μ μ1 := sorry
theorem wrL_id {run : ab_R} (h : ∃ (r : Int) (μ1 : ab_M), run = some ((0, r), μ1) ∧ (r = 0 ∨ r = 1)) : wrL run = run := sorry
theorem tw_bgW {δ : Nat} {p0 : Int} (la : laOK S) (bn : bnOK S) (nu : nuOK S) (lo : loOK S) (ok : scOK S N) (hat : at' + data + ps ≤ n) (x : TXs X F S N T n s μ σ ε) (i : hIn S σ.1 D) (hr : r < σ.1.1) (ve : ∀ j, σ.1.2.2.1 r j = []) (hx : σ.2.2.1 ≤ 50000) (hg : μ 7756 175 = (lv : Int)) (l6 : lv < 60) (hd : μ 7756 190 = ((dp - 1 : Nat) : Int)) (dd : 1 ≤ dp ∧ dp ≤ 12) : wrL (ab_run wt ((d + 10 + δ)) 9 0 [(2, 7756), (0, 12), (0, (ε r)), (0, (at')), (0, data), (0, ps), (0, p0)] [] μ) = (ab_run wt ((d + 10 + δ)) 9 0 [(2, 7756), (0, 12), (0, (ε r)), (0, (at')), (0, data), (0, ps), (0, p0)] [] μ) := sorry
def tXp (d : Nat) (S : SF) (N : NF) (T : Nat → Int) (n s : Nat) (X : RsvT) (F : Nat → Prop) (run : ab_R) (μ : ab_M) (lv dp nr e : Nat) (key : Int × List Int) (ε : Nat → Nat) : Flt ⊕ Sx → Prop
  | .inl f => FtR run μ f
  | .inr σ' => ∃ μ' ε', run = (ab_run wt (d + 13) 266 182 [(2, 7756), (3, 0), (0, 12), (3, 0), (3, 0), (3, 0), (3, 0)] [] μ') ∧ TXs X F S N T n s μ' σ' ε' ∧ μ' 7756 175 = ((lv + 1 : Nat) : Int) ∧ μ' 7756 190 = (dp : Int) ∧ (∀ x, x < nr → ε' x = ε x) ∧ (∀ a, 7912 ≤ a → a ≤ 7919 → μ' a lv = μ a lv) ∧ μ' 7920 lv = (e : Int) ∧ kTn μ' (e : Int) key ∧ frTx lv μ μ' ∧ frKu μ μ'
theorem tXp.to {run : ab_R} {key : Int × List Int} {R : Flt ⊕ Sx} (x : tXp d S N T n s X F run μ' lv dp nr e key ε R) (f : frTx lv μ μ') (fa : ∀ a, 7912 ≤ a → a ≤ 7919 → μ' a lv = μ a lv) (fk : frKu μ μ') : tXp d S N T n s X F run μ lv dp nr e key ε R := sorry
theorem tw_pr {fi pM1 e : Nat} {zz : Int} (ih : TXr d S N T n s c0 rec) (hc : dp + c0 = 12) (la : laOK S) (bn : bnOK S) (nu : nuOK S) (lo : loOK S) (ok : scOK S N) (hT : ∀ k, k < 8 * n → 0 ≤ T k ∧ T k < 256) (cw : tXw μ n T σ.2.2.2.1) (hI : μ 7756 202 = (σ.2.2.2.2.1 : Int)) (tf : TDf X F (upS S σ.2.2.1) N 12 s μ σ.1 tr1 ε (σ.2.1 + 1) pM1 t j e v l zz) (hpM : pM1 ≤ σ.2.2.2.2.2) (kk : μ 7876 e = v ∧ μ 7877 e = (fi : Int) ∧ μ 7878 e = (l.length : Int) ∧ fi + l.length ≤ pM1 ∧ tBy μ 7879 (9000 * 12 + fi) l) (he : e = 4600 * 12 + σ.2.1) (hz : zz = if kBits (S 12 t j) = 0 then 0 else kCut (S 12 t j) (bt T pos dt (mpS S t j) (kBits (S 12 t j)).toNat).toInt) (i : hIn S σ.1 D) (hr : r < σ.1.1) (ht : σ.1.2.1 r = t) (hj : j < fCt S t) (m3 : S 11 t j = 3) (hd : D r = dp) (hat : pos + dt + ps ≤ n) (vk : (lng v ∧ byt l) ∧ (S 14 t j ≠ 9 → l = []) ∧ (S 14 t j = 9 → v = 0)) (kd : kDp (S 14 t j) v l (σ.1.2.2.1 r j) = []) (hg : μ 7756 175 = ((lv + 1 : Nat) : Int)) (l6 : lv + 1 ≤ 2 * dp) (hri : μ 7756 190 = (dp : Int)) (iv : ivX true κ1 (κ + 1) φ 0 σ) :
    tXp d S N T n s X F (lpX d (wrL (ab_run wt (d + 11) 259 262 [(2, 7756), (0, 12), (0, lv), (0, (fX s t j)), (0, pos), (0, dt), (0, ps), (0, (ε r)), (3, 0), (0, e), (3, 0), (0, ((if kBits (S 12 t j) = 0 then ((dPi S t j : Nat) : Int) else -2))), (3, 0), (3, 0), (3, 0), (3, 0), (3, 0)] [] μ))) μ lv dp σ.1.1 e (v, l) ε (dPr S N T n rec r t j dp pos dt ps (v, l) σ) := sorry
end Tx
end
section
section Tx
variable {μ μ' μ'' : ab_M} {d : Nat} {S : SF} {N : NF} {m s n : Nat} {h h' : He} {al : Nat → Bool} {ε ε' : Nat → Nat} {uM pM r j e p q lv lv' t w at' data ps o dp nr nr' z κ1 κ φ ρ pos dt c0 : Nat} {X : RsvT} {F : Nat → Prop} {D : Nat → Nat} {v k : Int} {l : List Int} {T : Nat → Int} {σ σ' : Sx} {rec : Rx}
theorem tw_rwL (ih : TXr d S N T n s c0 rec) (hn : RxN S true c0 rec) (hk : RxK S rec) (hc : dp + c0 = 12) (la : laOK S) (bn : bnOK S) (nu : nuOK S) (lo : loOK S) (ok : scOK S N) (hT : ∀ k, k < 8 * n → 0 ≤ T k ∧ T k < 256) (hj : j < fCt S t) (m23 : S 11 t j = 3 ∨ S 11 t j = 2 ∧ S 12 t j = 12 ∧ dp + 1 ≤ 12) (hq : q < n) (l6 : lv + 1 ≤ 2 * dp) : ∀ (m pos : Nat) (last : Option (Int × List Int)) (x11 : Int) (μ : ab_M) (σ : Sx) (ε : Nat → Nat) (D : Nat → Nat), TXs X F S N T n s μ σ ε → hIn S σ.1 D → r < σ.1.1 → σ.1.2.1 r = t → D r = dp → pos + m * (dt + ps) ≤ n → m ≤ 400 → wFx μ lv (ε r) (fX s t j) m pos dt ps q x11 → μ 7756 175 = ((lv + 1 : Nat) : Int) → μ 7756 190 = (dp : Int) → (S 11 t j = 3 → lsT μ x11 last) → ivX true (κ1 + m * (d1 dt + ps)) (κ + m) φ 0 σ → dRw S N T n rec r t j dp q dt ps m pos last σ ≠ .inl ovr →
    tXz d S N T n s X F (ab_run wt (d + 13) 266 182 [(2, 7756), (3, 0), (0, 12), (3, 0), (3, 0), (3, 0), (3, 0)] [] μ) μ lv dp σ.1.1 ε (dRw S N T n rec r t j dp q dt ps m pos last σ) := sorry
end Tx
end
section
section Tx
variable {μ μ' μ'' : ab_M} {d : Nat} {S : SF} {N : NF} {m s n : Nat} {h h' : He} {al : Nat → Bool} {ε ε' : Nat → Nat} {uM pM r j e p q lv lv' t w at' data ps o dp nr nr' z κ1 κ φ ρ pos dt c0 : Nat} {X : RsvT} {F : Nat → Prop} {D : Nat → Nat} {v k x2 x5 : Int} {l : List Int} {T : Nat → Int} {σ σ' : Sx} {rec : Rx}
theorem tw_pt (ih : TXr d S N T n s c0 rec) (hn : RxN S true c0 rec) (hk : RxK S rec) (hc : dp + c0 = 12) (la : laOK S) (bn : bnOK S) (nu : nuOK S) (lo : loOK S) (ok : scOK S N) (hT : ∀ k, k < 8 * n → 0 ≤ T k ∧ T k < 256) (hj : j < fCt S t) (hq : q < n) (nz : wdT T q ≠ 0) (l6 : lv + 2 ≤ 2 * dp) (x : TXs X F S N T n s μ σ ε) (i : hIn S σ.1 D) (hr : r < σ.1.1) (ht : σ.1.2.1 r = t) (hd : D r = dp) (nm : ¬ isNm S t j) (ve : σ.1.2.2.1 r j = []) (hv : onE S t r j σ.1) (hg : μ 7756 175 = ((lv + 1 : Nat) : Int)) (hri : μ 7756 190 = (dp : Int)) (iv : ivX true (κ1 + 1) κ φ 0 σ) (no : dPt S N true T n rec r t j dp q σ ≠ .inl ovr) :
    tXz d S N T n s X F (lpX d (ab_run wt (d + 12) 262 204 [(2, 7756), (0, 12), (0, x2), (0, (ε r)), (3, 0), (0, x5), (0, (fX s t j)), (0, q), (0, 0), (3, 0), (3, 0)] [(0, 1)] μ)) μ (lv + 1) dp σ.1.1 ε (dPt S N true T n rec r t j dp q σ) := sorry
end Tx
end
section
section Tx
variable {μ μ' μ'' : ab_M} {d : Nat} {S : SF} {N : NF} {m s n : Nat} {h h' : He} {al : Nat → Bool} {ε ε' : Nat → Nat} {uM pM r j e p q lv lv' t w at' data ps o dp nr nr' z κ1 κ φ ρ pos dt c0 : Nat} {X : RsvT} {F : Nat → Prop} {D : Nat → Nat} {v k x2 x5 : Int} {l : List Int} {T : Nat → Int} {σ σ' : Sx} {rec : Rx}
theorem tw_rp141 {x3 x7 s0 : Int} (la : laOK S) (ts : TS μ s S N) (t1 : (t : Int) < S 0 0 0) (t2 : S 2 t 0 = 1) (hj : j < fCt S t) (c : tXw μ n T w) (hat : at' + data + ps ≤ n) (l6 : lv < 64) (h1 : μ 7918 lv = (at' : Int)) (h2 : μ 7913 lv = ((at' + data : Nat) : Int)) (is : dIp S T t at' data p j) :
    (dIs S T t at' data p j → (ab_run wt (d + 2) 262 141 [(2, 7756), (0, 12), (0, lv), (0, x3), (3, 0), (0, x5), (0, (fX s t j)), (0, x7), (3, 0), (3, 0), (3, 0)] [(0, s0)] μ) = (ab_run wt (d + 2) 262 204 [(2, 7756), (0, 12), (0, lv), (0, x3), (3, 0), (0, x5), (0, (fX s t j)), (0, x7), (0, s0), (3, 0), (3, 0)] [(0, 1)] μ)) ∧ (¬ dIs S T t at' data p j → (ab_run wt (d + 2) 262 141 [(2, 7756), (0, 12), (0, lv), (0, x3), (3, 0), (0, x5), (0, (fX s t j)), (0, x7), (3, 0), (3, 0), (3, 0)] [(0, s0)] μ) = some ((0, 1), μ)) := sorry
theorem tw_ptrs (ih : TXr d S N T n s c0 rec) (hn : RxN S true c0 rec) (hk : RxK S rec) (hc : dp + c0 = 12) (la : laOK S) (bn : bnOK S) (nu : nuOK S) (lo : loOK S) (ok : scOK S N) (hT : ∀ k, k < 8 * n → 0 ≤ T k ∧ T k < 256) (t1 : (t : Int) < S 0 0 0) (t2 : S 2 t 0 = 1) (l6 : lv + 2 ≤ 2 * dp) (hat : at' + data + ps ≤ n) : ∀ (q p : Nat) (μ : ab_M) (σ : Sx) (ε : Nat → Nat) (D : Nat → Nat), p + q = (S 6 t 0).toNat → TXs X F S N T n s μ σ ε → hIn S σ.1 D → r < σ.1.1 → σ.1.2.1 r = t → D r = dp → rFx μ lv (ε r) at' data ps p → μ 7756 175 = ((lv + 1 : Nat) : Int) → μ 7756 190 = (dp : Int) → dEm S T t at' data r p σ.1 → ivX true (κ1 + (ps - p)) κ (φ + (if data = 0 then 0 else cPt S t p)) 0 σ →
    tXz d S N T n s X F (ab_run wt (d + 13) 266 182 [(2, 7756), (3, 0), (0, 12), (3, 0), (3, 0), (3, 0), (3, 0)] [] μ) μ lv (dp - 1) σ.1.1 ε (dPs S N true T n rec r t dp at' data ps q p σ) := sorry
theorem tw_TXr (la : laOK S) (bn : bnOK S) (nu : nuOK S) (stk : stOK S) (lo : loOK S) (ok : scOK S N) (hT : ∀ k, k < 8 * n → 0 ≤ T k ∧ T k < 256) : ∀ c, TXr d S N T n s c (dRec S N true T n c) := sorry
end Tx
end
section
section Tx
variable {μ μ' μ'' : ab_M} {d : Nat} {S : SF} {N : NF} {m s n : Nat} {h h' : He} {al : Nat → Bool} {ε ε' : Nat → Nat} {uM pM r j e p q t w at' ps dp k : Nat} {X : RsvT} {F : Nat → Prop} {D : Nat → Nat} {x1 x2 : Int} {T : Nat → Int} {σ σ' : Sx} {rec : Rx} {g : Bool}
theorem tw_rs58 (c : tIn μ n T) (hk : 8 * k + 8 ≤ n) (k5 : k < 5000) : ∀ (m i : Nat), m + i = 8 → (ab_run wt (d + 1) 266 58 [(2, 7756), (0, x1), (0, x2), (0, k), (1, ((BitVec.ofNat 64 (wUp T k i m)).toInt)), (3, 0), (0, ((m : Int) - 1))] [] μ) = (ab_run wt (d + 1) 266 43 [(2, 7756), (0, x1), (0, x2), (0, (((k + 1 : Nat) : Int))), (3, 0), (3, 0), (3, 0)] [] (ab_up μ 7907 k (wdT T k).toInt)) := sorry
theorem tw_rs43 (n4 : n ≤ 4000) : ∀ (m k : Nat) (μ : ab_M), k + m = n / 8 → tIn μ n T → μ 7756 215 = ((n / 8 : Nat) : Int) → (∀ i, i < k → μ 7907 i = (wdT T i).toInt) → ∃ μ', (ab_run wt (d + 1) 266 43 [(2, 7756), (0, x1), (0, x2), (0, k), (3, 0), (3, 0), (3, 0)] [] μ) = (ab_run wt (d + 1) 266 43 [(2, 7756), (0, x1), (0, x2), (0, (((n / 8 : Nat) : Int))), (3, 0), (3, 0), (3, 0)] [] μ') ∧ (∀ i, i < n / 8 → μ' 7907 i = (wdT T i).toInt) ∧ ∀ a i, a ≠ 7907 → μ' a i = μ a i := sorry
theorem dNs_zero (la : laOK S) (bn : bnOK S) (st : stOK S) (ok : scOK S N) (t1 : (t : Int) < S 0 0 0) (t2 : S 2 t 0 = 1) : ∀ (q i : Nat), i + q = fCt S t → dNs S N g T 0 t at' 0 q i (hNew t, 1, 0, w, 0, 0) = (hNew t, 1, 0, w, 0, 0) := sorry
theorem dPs_zero (la : laOK S) (nu : nuOK S) (ok : scOK S N) (t1 : (t : Int) < S 0 0 0) (t2 : S 2 t 0 = 1) : ∀ (q p : Nat) (σ : Sx), dPs S N g T n rec r t dp at' 0 0 q p σ = .inr σ := sorry
theorem dDx_zero (la : laOK S) (bn : bnOK S) (nu : nuOK S) (st : stOK S) (ok : scOK S N) (tO : (t : Int) < S 0 0 0 ∧ S 2 t 0 = 1) (hn : n ≠ 0 ∧ n % 8 = 0) (z : wdT T 0 = 0) : dDx S N g T n t = .inr (hNew t, 1, 0, 1, 0, 0) := sorry
end Tx
end
section
section Td
variable {μ μ' μ'' : ab_M} {d : Nat} {S : SF} {N : NF} {m s n x : Nat} {h h' : He} {al : Nat → Bool} {ε ε' : Nat → Nat} {uM pM t k rw : Nat} {X : RsvT} {F : Nat → Prop} {T : Nat → Int}
theorem tEs_w {t : Nat} : ∀ (c : List Nat) (W : List We), tEs (upS S x) μ m s pM ε t c W → tEs S μ m s pM ε t c W := sorry
theorem TMo_w (t : TMo X (upS S x) μ m s h.1 al h.2.1 h.2.2.1 h.2.2.2 ε uM pM) : TMo X S μ m s h.1 al h.2.1 h.2.2.1 h.2.2.2 ε uM pM := sorry
theorem gh_up (hx : x ≤ 100000) : gh (upS S x) 12 = (x : Int) := sorry
theorem TD_w (g0 : S 99 0 0 = 0) (y : TD X F (upS S 0) N 12 s μ h al ε uM pM) : TD X F S N 12 s μ h al ε uM pM := sorry
theorem tw_readFormat2 (ts : TS μ s S N) (g0 : S 99 0 0 = 0) (so : slOK S) (tO : (t : Int) < S 0 0 0 ∧ S 2 t 0 = 1) (c : tIn μ n T) (n4 : n ≤ 4000) (he : μ 7756 179 = n) : RBt S N (ab_run wt (d + 14) 250 0 [(2, 7756), (0, s), (0, t), (0, 2)] [] μ) μ s (lgR S (dDc S N T n t)) := sorry
end Td
section Te
variable {μ μ' : ab_M} {d s m rw k : Nat} {S : Nat → SF} {N : Nat → NF} {th : Nat → Int} {tp : List Int} {rows : Nat → List Int}
theorem tw_decode2 (s4 : s < 4) (r8 : rw < 8) (m12 : m < 12) (ts : tSs μ th S N) (gz : S s 99 0 0 = 0) (rz : rtZ μ m) (so : th s = 1 → slOK (S s)) (c : tR μ tp rows) (hb : ∀ x ∈ rows rw, 0 ≤ x ∧ x < 256) :
    R0 (ab_run wt (d + 15) 34 0 [(2, 7756), (0, s), (0, k), (0, 2), (0, rw), (0, m)] [] μ) (fun v μ' => if th s = 0 then v = -2 ∧ μ' = μ else if ¬ ((k : Int) < S s 0 0 0 ∧ S s 2 k 0 = 1) then v = -1 ∧ μ' = μ else frDt m μ μ' ∧ match lgR (S s) (dDc (S s) (N s) (tpT (rows rw)) (rows rw).length k) with
      | .inl f => v = w32 (-10 - f.1) ∧ μ' 7756 4 = f.2 ∧ ∀ a i, mine m a i → a ≠ 7756 → a ≠ 7880 → μ' a i = μ a i
      | .inr h => v = vlS (S s) h ∧ μ' 7862 m = 1 ∧ μ' 7756 4 = -2 ∧ ∃ h', mT (S s) (N s) μ' m s h' ∧ hEq (S s) h h') := sorry
end Te
end
section
section So
variable {μ : ab_M} {d : Nat} {S : SF} {N : NF} {A cr ci cb A' cr' ci' cb' kS b : Nat} {h h' : He} {X X' : Rsv} {t r j r' ni nu us ni' nu' us' D E F : Nat} {u : Int} {R : Nat → Nat → Bool} {q q' : It}
def qsV (k : Int) (R : Nat → Nat → Bool) (q q' : It) : Bool := if k = 12 then R q.2.2.2.2 q'.2.2.2.2 else decide (q.2.2.1 = q'.2.2.1 ∧ q.2.2.2.1 = q'.2.2.2.1)
def qsI (k : Int) (R : Nat → Nat → Bool) (q q' : It) : Bool := if q.1 = q'.1 ∧ q.2.1 = q'.2.1 then qsV k R q q' else false
def qsL (k : Int) (R : Nat → Nat → Bool) : List It → List It → Bool
  | [], [] => true
  | q :: L, q' :: L' => if qsI k R q q' = true then qsL k R L L' else false
  | [], _ :: _ => false
  | _ :: _, [] => false
def qsF (S : SF) (t : Nat) (R : Nat → Nat → Bool) (v v' : Nat → List It) : Nat → Nat → Bool
  | 0, _ => true
  | m + 1, j => if qsL (S 12 t j) R (v j) (v' j) = true then qsF S t R v v' m (j + 1) else false
def qsR (S : SF) (u : Int) (h h' : He) : Nat → Nat → Nat → Bool
  | 0, _, _ => false
  | f + 1, r, r' => if qsF S (h.2.1 r) (qsR S u h h' f) (h.2.2.1 r) (h'.2.2.1 r') (fCt S (h.2.1 r)) 0 = true then decide (u = 0 ∨ h.2.2.2 r = h'.2.2.2 r') else false
abbrev bI (x : Bool) : Int := if x = true then 1 else 0
def qsP (A A' : Nat) (u : Int) (μ : ab_M) (D : Nat) (R : Nat → Nat → Bool) (c c' : Nat) : Prop := ∀ E, D ≤ E → (ab_run wc E 423 0 [(2, 1), (2, A), (0, c), (2, (A')), (0, (c')), (0, u), (3, 0), (3, 0), (3, 0)] [] μ) = some ((0, bI (R c c')), μ)
theorem bI_rg {x : Bool} : bI x = 0 ∨ bI x = 1 := sorry
theorem kyC_eq {k v : Int} {l : List Int} (h1 : k = 9 → q.1 = v) (h2 : k ≠ 9 → q.2.1 = l) : kyC k q v l = 0 ↔ q.1 = v ∧ q.2.1 = l := sorry
theorem c_sm50 {i i' ks ks' : Nat} (hm : isM A cr ci cb) (hm' : isM A' cr' ci' cb') (hF : wc_ob F 8 = true) (F3 : μ F 3 = 200000 + S 12 t j) (k12 : 0 ≤ S 12 t j ∧ S 12 t j ≤ 12) (hi : i < ci) (hi' : i' < ci') (it : cIt μ A us (fSo (S 12 t j)) ks i q) (it' : cIt μ A' us' (fSo (S 12 t j)) ks' i' q') (hu : us ≤ cb) (hu' : us' ≤ cb') (ic : itC S t j q) (ic' : itC S t j q') (nh : q.2.2.2.2 ≠ hole) (nh' : q'.2.2.2.2 ≠ hole) (hR : S 12 t j = 12 → qsP A A' u μ D R q.2.2.2.2 q'.2.2.2.2) (hD : D ≤ E + 1) :
    (ab_run wc (E + 2) 422 50 [(2, 1), (2, A), (0, i), (2, (A')), (0, (i')), (2, F), (0, u)] [] μ) = some ((0, bI (qsV (S 12 t j) R q q')), μ) := sorry
theorem c_compareKeys0 {k : Int} {i so ks : Nat} {a o ln : Int} {t : It} {v : Int} {l : List Int} (hm : isM A cr ci cb) (k1 : 1 ≤ k) (k2 : k ≤ 9) (k9 : k ≠ 9) (hks : ks = 1) (hi : i < ci) (it : cIt μ A us so ks i t) (v1 : lng t.1) (v2 : lng v) :
    (ab_run wc (d + 4) 382 0 [(2, 1), (2, A), (0, i), (2, (200000 + k)), (1, v), (3, 0), (2, a), (0, o), (0, ln)] [] μ) = some ((0, kyC k t v l), μ) := sorry
theorem c_smIt {i i' : Nat} (hm : isM A cr ci cb) (hm' : isM A' cr' ci' cb') (hF : wc_ob F 8 = true) (F2 : μ F 2 = S 11 t j) (F3 : μ F 3 = 200000 + S 12 t j) (F5 : S 11 t j = 3 → μ F 5 = 200000 + S 14 t j) (k12 : 0 ≤ S 12 t j ∧ S 12 t j ≤ 12) (k14 : S 11 t j = 3 → 1 ≤ S 14 t j ∧ S 14 t j ≤ 9) (hi : i < ci) (hi' : i' < ci') (it : cIt μ A us (fSo (S 12 t j)) (fKs (S 11 t j) (S 14 t j)) i q) (it' : cIt μ A' us' (fSo (S 12 t j)) (fKs (S 11 t j) (S 14 t j)) i' q') (hu : us ≤ cb) (hu' : us' ≤ cb') (ic : itC S t j q) (ic' : itC S t j q') (kk : S 11 t j ≠ 3 → q.1 = 0 ∧ q.2.1 = []) (kk' : S 11 t j ≠ 3 → q'.1 = 0 ∧ q'.2.1 = []) (lg : lng q.1) (lg' : lng q'.1) (nh : q.2.2.2.2 ≠ hole) (nh' : q'.2.2.2.2 ≠ hole) (hR : S 12 t j = 12 → qsP A A' u μ D R q.2.2.2.2 q'.2.2.2.2) (hD : D ≤ E + 4) :
    (ab_run wc (E + 5) 422 0 [(2, 1), (2, A), (0, i), (2, (A')), (0, (i')), (2, F), (0, u)] [] μ) = some ((0, bI (qsI (S 12 t j) R q q')), μ) := sorry
end So
end
section
section So
variable {μ : ab_M} {d : Nat} {S : SF} {N : NF} {A cr ci cb A' cr' ci' cb' kS b : Nat} {h h' : He} {X X' : Rsv} {t r j r' ni nu us ni' nu' us' D E F : Nat} {u : Int} {R : Nat → Nat → Bool}
abbrev itG (S : SF) (t j : Nat) (q : It) : Prop := itC S t j q ∧ (S 11 t j ≠ 3 → q.1 = 0 ∧ q.2.1 = []) ∧ lng q.1 ∧ q.2.2.2.2 ≠ hole
theorem qsL_len {k : Int} : ∀ {L L' : List It}, L.length ≠ L'.length → qsL k R L L' = false := sorry
theorem c_sm210 {ch ch' : List Nat} {L0 L0' : List It} (hm : isM A cr ci cb) (hm' : isM A' cr' ci' cb') (hF : wc_ob F 8 = true) (F2 : μ F 2 = S 11 t j) (F3 : μ F 3 = 200000 + S 12 t j) (F5 : S 11 t j = 3 → μ F 5 = 200000 + S 14 t j) (k12 : 0 ≤ S 12 t j ∧ S 12 t j ≤ 12) (k14 : S 11 t j = 3 → 1 ≤ S 14 t j ∧ S 14 t j ≤ 9) (c : chI μ A ci us (fSo (S 12 t j)) (fKs (S 11 t j) (S 14 t j)) ch L0) (c' : chI μ A' ci' us' (fSo (S 12 t j)) (fKs (S 11 t j) (S 14 t j)) ch' L0') (hu : us ≤ cb) (hu' : us' ≤ cb') (ig : ∀ q ∈ L0, itG S t j q) (ig' : ∀ q ∈ L0', itG S t j q) (hR : S 12 t j = 12 → ∀ q ∈ L0, ∀ q' ∈ L0', qsP A A' u μ D R q.2.2.2.2 q'.2.2.2.2) (hD : D ≤ E + 4) :
    ∀ (L L' : List It) (p : Nat), L.length = L'.length → (∀ x : Nat, L0[p + x]? = L[x]?) → (∀ x : Nat, L0'[p + x]? = L'[x]?) → p + L.length = ch.length → p + L'.length = ch'.length → (ab_run wc (E + 6) 421 210 [(2, 1), (2, A), (3, 0), (2, (A')), (3, 0), (2, F), (3, 0), (0, u), (3, 0), (3, 0), (3, 0), (0, (nx ch p)), (0, (nx ch' p))] [] μ) = some ((0, bI (qsL (S 12 t j) R L L')), μ) := sorry
theorem c_smF (hm : isM A cr ci cb) (hm' : isM A' cr' ci' cb') (ms : cMS μ A kS b S N) (ms' : cMS μ A' kS b S N) (cm : CM X S μ A cr ci cb h.1 h.2.1 h.2.2.1 h.2.2.2 ni nu us) (cm' : CM X' S μ A' cr' ci' cb' h'.1 h'.2.1 h'.2.2.1 h'.2.2.2 ni' nu' us') (hr : r < h.1) (hr' : r' < h'.1) (ht : h.2.1 r = t) (ht' : h'.2.1 r' = t) (hi : hI S h) (hi' : hI S h') (hj : j < fCt S t) (ig : ∀ q ∈ h.2.2.1 r j, itG S t j q) (ig' : ∀ q ∈ h'.2.2.1 r' j, itG S t j q) (hR : S 12 t j = 12 → ∀ q ∈ h.2.2.1 r j, ∀ q' ∈ h'.2.2.1 r' j, qsP A A' u μ D R q.2.2.2.2 q'.2.2.2.2) (hD : D ≤ E + 4) :
    (ab_run wc (E + 6) 421 0 [(2, 1), (2, A), (0, r), (2, (A')), (0, (r')), (2, (fdA b t j)), (0, j), (0, u), (3, 0), (3, 0), (3, 0), (3, 0), (3, 0)] [] μ) = some ((0, bI (qsL (S 12 t j) R (h.2.2.1 r j) (h'.2.2.1 r' j))), μ) := sorry
theorem c_sm77 {ch ch' : List Nat} {L0 L0' : List Un} (hm : isM A cr ci cb) (hm' : isM A' cr' ci' cb') (hu : us ≤ cb) (hu' : us' ≤ cb') (c1 : ∀ i ∈ ch, i < ci) (c1' : ∀ i ∈ ch', i < ci') (c2 : ∀ (k i : Nat) (t : Un), ch[k]? = some i → L0[k]? = some t → μ (msA A 27) i = t.1 ∧ μ (msA A 28) i = t.2.1 ∧ cMt μ A us 29 30 i t.2.2) (c2' : ∀ (k i : Nat) (t : Un), ch'[k]? = some i → L0'[k]? = some t → μ (msA A' 27) i = t.1 ∧ μ (msA A' 28) i = t.2.1 ∧ cMt μ A' us' 29 30 i t.2.2) (c3 : ∀ (k i : Nat), ch[k]? = some i → μ (msA A 31) i = nx ch (k + 1)) (c3' : ∀ (k i : Nat), ch'[k]? = some i → μ (msA A' 31) i = nx ch' (k + 1)) :
    ∀ (L L' : List Un) (p : Nat), (∀ x : Nat, L0[p + x]? = L[x]?) → (∀ x : Nat, L0'[p + x]? = L'[x]?) → p + L.length = ch.length → p + L'.length = ch'.length → (ab_run wc (d + 2) 423 77 [(3, 0), (2, A), (3, 0), (2, (A')), (3, 0), (3, 0), (3, 0), (0, (nx ch p)), (0, (nx ch' p))] [] μ) = some ((0, bI (decide (L = L'))), μ) := sorry
end So
end
section
section So
variable {μ : ab_M} {d : Nat} {S : SF} {N : NF} {A cr ci cb A' cr' ci' cb' kS b : Nat} {h h' : He} {X X' : Rsv} {t r j r' ni nu us ni' nu' us' D E F : Nat} {u : Int} {R : Nat → Nat → Bool}
def hKt (S : SF) (h : He) : Nat → Nat → Prop
  | 0, _ => True
  | f + 1, r => ∀ j, j < fCt S (h.2.1 r) → S 12 (h.2.1 r) j = 12 → ∀ q ∈ h.2.2.1 r j, h.2.1 q.2.2.2.2 = (S 13 (h.2.1 r) j).toNat ∧ hKt S h f q.2.2.2.2
def hKd (S : SF) (h : He) : Prop := ∀ f, hKt S h f 0
theorem c_sm11 (hm : isM A cr ci cb) (hm' : isM A' cr' ci' cb') (ms : cMS μ A kS b S N) (ms' : cMS μ A' kS b S N) (cm : CM X S μ A cr ci cb h.1 h.2.1 h.2.2.1 h.2.2.2 ni nu us) (cm' : CM X' S μ A' cr' ci' cb' h'.1 h'.2.1 h'.2.2.1 h'.2.2.2 ni' nu' us') (hr : r < h.1) (hr' : r' < h'.1) (ht : h.2.1 r = t) (ht' : h'.2.1 r' = t) (hi : hI S h) (hi' : hI S h') (ig : ∀ j, j < fCt S t → ∀ q ∈ h.2.2.1 r j, itG S t j q) (ig' : ∀ j, j < fCt S t → ∀ q ∈ h'.2.2.1 r' j, itG S t j q) (hR : ∀ j, j < fCt S t → S 12 t j = 12 → ∀ q ∈ h.2.2.1 r j, ∀ q' ∈ h'.2.2.1 r' j, qsP A A' u μ D R q.2.2.2.2 q'.2.2.2.2) (hD : D ≤ E + 4) :
    ∀ (m j : Nat), j + m = fCt S t → (ab_run wc (E + 7) 423 11 [(2, 1), (2, A), (0, r), (2, (A')), (0, (r')), (0, u), (2, (tyA b t)), (0, j), (3, 0)] [] μ) = some ((0, bI (if qsF S t R (h.2.2.1 r) (h'.2.2.1 r') m j = true then decide (u = 0 ∨ h.2.2.2 r = h'.2.2.2 r') else false)), μ) := sorry
theorem itG_of (cn : hCn S h) (hi : hI S h) (dn : hDn S h (fun _ => true)) (h1 : h.1 < hole) (hr : r < h.1) (hj : j < fCt S (h.2.1 r)) : ∀ q ∈ h.2.2.1 r j, itG S (h.2.1 r) j q := sorry
theorem c_smR (hm : isM A cr ci cb) (hm' : isM A' cr' ci' cb') (ms : cMS μ A kS b S N) (ms' : cMS μ A' kS b S N) (cm : CM X S μ A cr ci cb h.1 h.2.1 h.2.2.1 h.2.2.2 ni nu us) (cm' : CM X' S μ A' cr' ci' cb' h'.1 h'.2.1 h'.2.2.1 h'.2.2.2 ni' nu' us') (hi : hI S h) (hi' : hI S h') (cn : hCn S h) (cn' : hCn S h') (dn : hDn S h (fun _ => true)) (dn' : hDn S h' (fun _ => true)) : ∀ (f r r' : Nat), r < h.1 → r' < h'.1 → h.2.1 r = h'.2.1 r' → h.1 ≤ r + f → hKt S h f r → hKt S h' f r' → qsP A A' u μ (3 * f + 7) (qsR S u h h' f) r r' := sorry
theorem hKt_eq {g : He} : ∀ {f n r r' : Nat}, eqT S h g n r r' → hKt S g f r' → hKt S h f r := sorry
theorem hKd_eq {g : He} (e : hEq S h g) (k : hKd S g) : hKd S h := sorry
theorem qsL_iff {k : Int} {Q : Nat → Nat → Prop} : ∀ {L L' : List It}, (∀ q ∈ L, k ≠ 12 → q.2.2.2.2 = 0) → (k = 12 → ∀ q ∈ L, q.2.2.1 = 0 ∧ q.2.2.2.1 = []) → (k = 12 → ∀ q ∈ L', q.2.2.1 = 0 ∧ q.2.2.2.1 = []) → (k = 12 → ∀ q ∈ L, ∀ q' ∈ L', R q.2.2.2.2 q'.2.2.2.2 = true ↔ Q q.2.2.2.2 q'.2.2.2.2) → (qsL k R L L' = true ↔ itsE Q (decide (k = 12)) L L') := sorry
theorem qsF_iff {v v' : Nat → List It} : ∀ (m j : Nat), qsF S t R v v' m j = true ↔ ∀ i, j ≤ i → i < j + m → qsL (S 12 t i) R (v i) (v' i) = true := sorry
theorem qsR_iff (cn : hCn S h) (cn' : hCn S h') (dn : hDn S h (fun _ => true)) (dn' : hDn S h' (fun _ => true)) : ∀ (f r r' : Nat), r < h.1 → r' < h'.1 → h.2.1 r = h'.2.1 r' → hKt S h f r → hKt S h' f r' → (qsR S 1 h h' f r r' = true ↔ eqT S h h' f r r') := sorry
end So
end
section
section So
variable {μ : ab_M} {d : Nat} {S : SF} {h h' h'' g g' : He} {r r' s s' k k2 : Nat}
theorem eqT_fit (dn : hDn S h (fun _ => true)) : ∀ (f n r r' : Nat), eqT S h h' f r r' → h.1 ≤ r + n → eqT S h h' n r r' := sorry
theorem hEq_fit (dn : hDn S h (fun _ => true)) : hEq S h h' ↔ eqT S h h' h.1 0 0 := sorry
noncomputable def saV (S : SF) (s s' : Nat) (h h' : He) : Int := @ite Int (s = s' ∧ h.2.1 0 = h'.2.1 0 ∧ hEq S h h') (Classical.propDecidable _) 1 0
theorem saV_eq (e : hEq S h g) (e' : s = s' → hEq S h' g') (t : h.2.1 0 = g.2.1 0) (t' : h'.2.1 0 = g'.2.1 0) : saV S s s' h h' = saV S s s' g g' := sorry
end So
section Sp
variable {μ : ab_M} {S : Nat → SF} {N : Nat → NF} {bs : Nat → Nat} {h h' : He} {s s' k k2 : Nat}
theorem c_same {D : Nat} (hD : 1300 ≤ D) (hk : k < 12) (hk2 : k2 < 12) (fl : μ (6314 + 27 * k) 0 = 0 ∨ μ (6314 + 27 * k) 0 = 1 ∧ mC (S s) (N s) μ k s (bs s) h ∧ hKd (S s) h) (fl2 : μ (6314 + 27 * k2) 0 = 0 ∨ μ (6314 + 27 * k2) 0 = 1 ∧ mC (S s') (N s') μ k2 s' (bs s') h' ∧ hKd (S s') h') :
    (ab_run wc ((D + 1)) 501 0 [(2, 1), (0, k), (0, k2), (3, 0), (3, 0)] [] μ) = some ((0, if μ (6314 + 27 * k) 0 = 0 then -2 else if μ (6314 + 27 * k2) 0 = 0 then -2 else saV (S s) s s' h h'), μ) := sorry
end Sp
end
section
section St
variable {μ : ab_M} {d : Nat} {m m' pM pM' i i' : Nat} {l l' kl kl' : List Int}
abbrev lkE (x y : Int) : Prop := (x < 0 ∧ y < 0) ∨ (0 ≤ x ∧ 0 ≤ y ∧ x % 4600 = y % 4600)
theorem tw_isSameLink {x y : Int} : (ab_run wt (d + 1) 102 0 [(2, 7756), (0, x), (0, y)] [] μ) = some ((0, if lkE x y then 1 else 0), μ) := sorry
theorem tw_kb {k : Nat} {x : Int} {f : Nat} (he : i < 73600) (hm : i / 4600 = m) (hf : μ 7877 i = (f : Int)) (fk : f + k < 9000) (hx : μ 7879 (9000 * m + f + k) = x) : (ab_run wt (d + 2) 134 0 [(2, 7756), (0, i), (0, k)] [] μ) = some ((0, x), μ) := sorry
theorem tw_bo {k : Nat} {x : Int} {f : Nat} (he : i < 73600) (hm : i / 4600 = m) (hf : μ 7874 i = (f : Int)) (fk : f + k < 9000) (hx : μ 7879 (9000 * m + f + k) = x) : (ab_run wt (d + 2) 16 0 [(2, 7756), (0, i), (0, k)] [] μ) = some ((0, x), μ) := sorry
theorem tw_se0 {k : Int} (he : i < 73600) : (ab_run wt (d + 3) 101 200 [(2, 7756), (0, i), (0, (i')), (0, 0), (0, k)] [] μ) = some ((0, 0), μ) := sorry
theorem tw_se153 {k : Int} (he : i < 73600) : (ab_run wt (d + 3) 101 153 [(2, 7756), (0, i), (0, (i')), (0, 0), (0, k)] [] μ) = some ((0, 0), μ) := sorry
theorem tw_seK {f f' n : Nat} (he : i < 73600) (he' : i' < 73600) (hm : i / 4600 = m) (hm' : i' / 4600 = m') (hf : μ 7877 i = (f : Int)) (hf' : μ 7877 i' = (f' : Int)) (hs : μ 7878 i = (n : Int)) (h9 : f + n ≤ 9000) (h9' : f' + n ≤ 9000) : ∀ (l l' : List Int) (k : Nat), k + l.length = n → l'.length = l.length → tBy μ 7879 (9000 * m + f + k) l → tBy μ 7879 (9000 * m' + f' + k) l' → (ab_run wt (d + 3) 101 200 [(2, 7756), (0, i), (0, (i')), (0, 1), (0, k)] [] μ) = some ((0, bI (decide (l = l'))), μ) := sorry
theorem tw_seB {f f' g g' n : Nat} (he : i < 73600) (he' : i' < 73600) (hm : i / 4600 = m) (hm' : i' / 4600 = m') (hf : μ 7874 i = (f : Int)) (hf' : μ 7874 i' = (f' : Int)) (hs : μ 7875 i = (n : Int)) (h9 : f + n ≤ 9000) (h9' : f' + n ≤ 9000) (hg : μ 7877 i = (g : Int)) (hg' : μ 7877 i' = (g' : Int)) (hk : μ 7878 i = (kl.length : Int)) (h8 : g + kl.length ≤ 9000) (h8' : g' + kl.length ≤ 9000) (hl : kl'.length = kl.length) (kb : tBy μ 7879 (9000 * m + g) kl) (kb' : tBy μ 7879 (9000 * m' + g') kl') : ∀ (l l' : List Int) (k : Nat), k + l.length = n → l'.length = l.length → tBy μ 7879 (9000 * m + f + k) l → tBy μ 7879 (9000 * m' + f' + k) l' → (ab_run wt (d + 3) 101 153 [(2, 7756), (0, i), (0, (i')), (0, 1), (0, k)] [] μ) = some ((0, bI (decide (l = l' ∧ kl = kl'))), μ) := sorry
def enE (μ : ab_M) (i i' : Nat) (l l' kl kl' : List Int) : Prop := lkE (μ 7871 i) (μ 7871 i') ∧ lkE (μ 7872 i) (μ 7872 i') ∧ μ 7869 i = μ 7869 i' ∧ μ 7873 i = μ 7873 i' ∧ μ 7876 i = μ 7876 i' ∧ lkE (μ 7870 i) (μ 7870 i') ∧ l = l' ∧ kl = kl'
theorem tw_isSameEntry (he : i < 73600) (he' : i' < 73600) (hm : i / 4600 = m) (hm' : i' / 4600 = m') (p9 : pM ≤ 9000) (p9' : pM' ≤ 9000) (t : tMx μ m pM 7874 7875 i l) (t' : tMx μ m' pM' 7874 7875 i' l') (k : tMx μ m pM 7877 7878 i kl) (k' : tMx μ m' pM' 7877 7878 i' kl') : ∃ x : Int, (ab_run wt (d + 4) 101 0 [(2, 7756), (0, i), (0, (i')), (3, 0), (3, 0)] [] μ) = some ((0, x), μ) ∧ (x = 0 ∨ x = 1) ∧ (x = 1 ↔ enE μ i i' l l' kl kl') := sorry
end St
end
section
section Lz
variable {S : SF} {R R' : Nat → Nat → Prop} {t : Nat} {z z' st st' : Nat → Nat}
def wsR (S : SF) (t : Nat) (R : Nat → Nat → Prop) : List We → List We → Prop
  | [], [] => True
  | x :: L, y :: L' => (x.1 = y.1 ∧ x.2.1 = y.2.1 ∧ x.2.2.1 = y.2.2.1 ∧ x.2.2.2.1 = y.2.2.2.1 ∧ x.2.2.2.2.1 = y.2.2.2.2.1) ∧ (S 12 t x.1 = 12 → R x.2.2.2.2.2 y.2.2.2.2.2) ∧ wsR S t R L L'
  | [], _ :: _ => False
  | _ :: _, [] => False
def pcR (R : Nat → Nat → Prop) : List Nat → List Nat → Prop
  | [], [] => True
  | x :: L, y :: L' => R x y ∧ pcR R L L'
  | [], _ :: _ => False
  | _ :: _, [] => False
theorem wsR.len : ∀ {L L' : List We}, wsR S t R L L' → L.length = L'.length := sorry
theorem wsR_chl : ∀ {L L' : List We}, wsR S t R L L' → pcR R (chl S t L) (chl S t L') := sorry
theorem wsR.at : ∀ {L L' : List We} {p : Nat} {x : We}, wsR S t R L L' → L[p]? = some x → ∃ y, L'[p]? = some y ∧ (x.1 = y.1 ∧ x.2.1 = y.2.1 ∧ x.2.2.1 = y.2.2.1 ∧ x.2.2.2.1 = y.2.2.2.1 ∧ x.2.2.2.2.1 = y.2.2.2.2.1) ∧ (S 12 t x.1 = 12 → R x.2.2.2.2.2 y.2.2.2.2.2) := sorry
theorem pcR.to : ∀ {L L' : List Nat}, pcR R L L' → (∀ x y, R x y → R' x y) → pcR R' L L' := sorry
theorem pcR.sz : ∀ {L L' : List Nat}, pcR (fun x y => z x = z' y) L L' → sZ z L = sZ z' L' := sorry
theorem pcR.al {a a' v v' : Nat} (hv : v + a' = v' + a) : ∀ {L L' : List Nat}, pcR (fun x y => R x y ∧ z x = z' y) L L' → lyP z st L v → lyP z' st' L' v' → pcR (fun x y => R x y ∧ st x + a' = st' y + a) L L' := sorry
theorem wsR_of {n : Nat} (inj : ∀ i j, i < n → j < n → S 10 t i = S 10 t j → i = j) : ∀ {W W' : List We}, W.Pairwise (fun a b => S 10 t a.1 ≤ S 10 t b.1) → W'.Pairwise (fun a b => S 10 t a.1 ≤ S 10 t b.1) → (∀ x ∈ W, x.1 < n) → (∀ x ∈ W', x.1 < n) → (∀ j, j < n → itsE R (decide (S 12 t j = 12)) (wV W j) (wV W' j)) → wsR S t R W W' := sorry
end Lz
section Lw
variable {S : SF} {g g' : He} {W W' : Nat → List We} {c uc c' uc' : Nat → List Nat} {z z' st st' : Nat → Nat} {R : Nat → Nat → Prop}
def lyB (S : SF) (g : He) (W : Nat → List We) (c uc : Nat → List Nat) (z st : Nat → Nat) : Prop := ∀ x, x < g.1 → lyD S g.2.1 g.2.2.2 z st W c uc x ∧ (W x).Pairwise (fun a b => S 10 (g.2.1 x) a.1 ≤ S 10 (g.2.1 x) b.1) ∧ (∀ e ∈ W x, e.1 < fCt S (g.2.1 x)) ∧ (∀ j, g.2.2.1 x j = wV (W x) j) ∧ ((g.2.1 x : Int) < S 0 0 0 ∧ S 2 (g.2.1 x) 0 = 1)
theorem lyB.ws (nu : nuOK S) (b : lyB S g W c uc z st) (b' : lyB S g' W' c' uc' z' st') {f r r' : Nat} (e : eqT S g g' (f + 1) r r') : wsR S (g.2.1 r) (eqT S g g' f) (W r) (W' r') := sorry
theorem lyB.sz (nu : nuOK S) (b : lyB S g W c uc z st) (b' : lyB S g' W' c' uc' z' st') : ∀ {f r r' : Nat}, eqT S g g' f r r' → z r = z' r' := sorry
theorem pcR_mem {x : Nat} : ∀ {L L' : List Nat}, pcR R L L' → x ∈ L → ∃ y, R x y := sorry
theorem lyB.al {a a' : Nat} (nu : nuOK S) (b : lyB S g W c uc z st) (b' : lyB S g' W' c' uc' z' st') {f r r' : Nat} (e : eqT S g g' (f + 1) r r') (h : st r + a' = st' r' + a) : pcR (fun x y => eqT S g g' f x y ∧ st x + a' = st' y + a) (chl S (g.2.1 r) (W r)) (chl S (g.2.1 r) (W' r')) := sorry
theorem lyB.pr {a a' : Nat} (nu : nuOK S) (b : lyB S g W c uc z st) (b' : lyB S g' W' c' uc' z' st') (dn : hDn S g (fun _ => true)) (no : noOr S g.1 (fun _ => true) g.2.1 g.2.2.1 (fun _ => False)) (e0 : hEq S g g') (h0 : st 0 + a' = st' 0 + a) : ∀ (n r : Nat), r < n → r < g.1 → ∃ f r', eqT S g g' (f + 1) r r' ∧ st r + a' = st' r' + a := sorry
end Lw
end
section
section Sw
variable {μ : ab_M} {d : Nat} {S : SF} {N : NF} {m m' s uM pM uM' pM' : Nat} {g g' : He} {ε ε' : Nat → Nat} {W W' : Nat → List We} {c uc c' uc' : Nat → List Nat} {own own' : Nat → Nat} {z z' st st' : Nat → Nat}
theorem sg_rng : ∀ {n a0 : Nat} {a : Int}, tSg μ a (List.range' a0 n) (-2) → (a = if n = 0 then -2 else (a0 : Int)) ∧ ∀ p, p < n → μ 7870 (a0 + p) = if p + 1 < n then ((a0 + p + 1 : Nat) : Int) else -2 := sorry
theorem tEs_px {t : Nat} : ∀ {c : List Nat} {W : List We} {p : Nat} {x : We}, tEs S μ m s pM ε t c W → W[p]? = some x → ∃ i, c[p]? = some i ∧ tEn S μ m s pM ε t i x := sorry
theorem tUs_px : ∀ {c : List Nat} {U : List Un} {p : Nat} {x : Un}, tUs μ m pM c U → U[p]? = some x → ∃ i, c[p]? = some i ∧ (μ 7869 i = -3 ∧ μ 7873 i = x.1 ∧ μ 7876 i = x.2.1 ∧ tMx μ m pM 7874 7875 i x.2.2 ∧ tMx μ m pM 7877 7878 i []) := sorry
theorem rng_at {a n p i : Nat} (h : (List.range' a n)[p]? = some i) : p < n ∧ i = a + p := sorry
theorem tH.lyb (H : tH S μ m s g.1 (fun _ => true) g.2.1 g.2.2.1 g.2.2.2 ε W c uc own uM pM) (ly : ∀ x, x < g.1 → lyD S g.2.1 g.2.2.2 z st W c uc x) : lyB S g W c uc z st := sorry
theorem tH.fst (H : tH S μ m s g.1 (fun _ => true) g.2.1 g.2.2.1 g.2.2.2 ε W c uc own uM pM) (ly : ∀ x, x < g.1 → lyD S g.2.1 g.2.2.2 z st W c uc x) {r : Nat} (hr : r < g.1) : (μ 7871 (ε r) = if (W r).length = 0 then -2 else (st r : Int)) ∧ (μ 7872 (ε r) = if (g.2.2.2 r).length = 0 then -2 else ((st r + (W r).length : Nat) : Int)) := sorry
theorem lk_al {a b n : Nat} {x y : Int} (h : a + 4600 * m' = b + 4600 * m) (hx : x = if n = 0 then -2 else (a : Int)) (hy : y = if n = 0 then -2 else (b : Int)) : lkE x y := sorry
theorem tH.nrec (ts : TS μ s S N) (H : tH S μ m s g.1 (fun _ => true) g.2.1 g.2.2.1 g.2.2.2 ε W c uc own uM pM) {i : Nat} (h1 : 4600 * m < i) (h : μ 7869 i = -3 ∨ ∃ t j : Nat, (t : Int) < S 0 0 0 ∧ S 2 t 0 = 1 ∧ j < fCt S t ∧ μ 7869 i = fX s t j ∧ S 12 t j ≠ 12) : ∀ x, x < g.1 → ε x ≠ i := sorry
end Sw
end
section
section Sw
variable {μ : ab_M} {d : Nat} {S : SF} {N : NF} {m m' s uM pM uM' pM' : Nat} {g g' : He} {ε ε' : Nat → Nat} {W W' : Nat → List We} {c uc c' uc' : Nat → List Nat} {own own' : Nat → Nat} {z z' st st' : Nat → Nat} {R : Nat → Nat → Prop} {t : Nat}
theorem wsR_al {a a' v v' : Nat} (hv : v + a' = v' + a) : ∀ {L L' : List We}, wsR S t (fun x y => R x y ∧ z x = z' y) L L' → lyP z st (chl S t L) v → lyP z' st' (chl S t L') v' → wsR S t (fun x y => R x y ∧ st x + a' = st' y + a) L L' := sorry
theorem wsR_to {R' : Nat → Nat → Prop} : ∀ {L L' : List We}, wsR S t R L L' → (∀ x y, R x y → R' x y) → wsR S t R' L L' := sorry
theorem en_fwW (ts : TS μ s S N) (H : tH S μ m s g.1 (fun _ => true) g.2.1 g.2.2.1 g.2.2.2 ε W c uc own uM pM) (H' : tH S μ m' s g'.1 (fun _ => true) g'.2.1 g'.2.2.1 g'.2.2.2 ε' W' c' uc' own' uM' pM') (ly : ∀ x, x < g.1 → lyD S g.2.1 g.2.2.2 z st W c uc x) (ly' : ∀ x, x < g'.1 → lyD S g'.2.1 g'.2.2.2 z' st' W' c' uc' x) (no : tNo μ m uM g.1 ε) (no' : tNo μ m' uM' g'.1 ε') {f r r' p : Nat} {x : We} (e : eqT S g g' (f + 1) r r') (al : st r + 4600 * m' = st' r' + 4600 * m) (hx : (W r)[p]? = some x) :
    ∃ l l' kl kl', (tMx μ m pM 7874 7875 (st r + p) l ∧ tMx μ m' pM' 7874 7875 (st' r' + p) l' ∧ tMx μ m pM 7877 7878 (st r + p) kl ∧ tMx μ m' pM' 7877 7878 (st' r' + p) kl') ∧ enE μ (st r + p) (st' r' + p) l l' kl kl' := sorry
theorem en_fwU (ts : TS μ s S N) (H : tH S μ m s g.1 (fun _ => true) g.2.1 g.2.2.1 g.2.2.2 ε W c uc own uM pM) (H' : tH S μ m' s g'.1 (fun _ => true) g'.2.1 g'.2.2.1 g'.2.2.2 ε' W' c' uc' own' uM' pM') (ly : ∀ x, x < g.1 → lyD S g.2.1 g.2.2.2 z st W c uc x) (ly' : ∀ x, x < g'.1 → lyD S g'.2.1 g'.2.2.2 z' st' W' c' uc' x) (no : tNo μ m uM g.1 ε) (no' : tNo μ m' uM' g'.1 ε') {f r r' p : Nat} {x : Un} (e : eqT S g g' (f + 1) r r') (al : st r + 4600 * m' = st' r' + 4600 * m) (hx : (g.2.2.2 r)[p]? = some x) :
    ∃ l l' kl kl', (tMx μ m pM 7874 7875 (st r + (W r).length + p) l ∧ tMx μ m' pM' 7874 7875 (st' r' + (W r).length + p) l' ∧ tMx μ m pM 7877 7878 (st r + (W r).length + p) kl ∧ tMx μ m' pM' 7877 7878 (st' r' + (W r).length + p) kl') ∧ enE μ (st r + (W r).length + p) (st' r' + (W r).length + p) l l' kl kl' := sorry
end Sw
end
section
section Sv
variable {μ : ab_M} {d : Nat} {S : SF} {N : NF} {m m' s uM pM uM' pM' : Nat} {g g' : He} {ε ε' : Nat → Nat} {W W' : Nat → List We} {c uc c' uc' : Nat → List Nat} {own own' : Nat → Nat} {R : Nat → Nat → Prop} {t : Nat}
theorem tMx_uq {a b i : Nat} {l l' : List Int} (x : tMx μ m pM a b i l) (y : tMx μ m pM a b i l') : l = l' := sorry
def enA (μ : ab_M) (m m' uM pM pM' : Nat) : Prop := ∀ k, 1 ≤ k → k < uM → ∃ l l' kl kl', (tMx μ m pM 7874 7875 (4600 * m + k) l ∧ tMx μ m' pM' 7874 7875 (4600 * m' + k) l' ∧ tMx μ m pM 7877 7878 (4600 * m + k) kl ∧ tMx μ m' pM' 7877 7878 (4600 * m' + k) kl') ∧ enE μ (4600 * m + k) (4600 * m' + k) l l' kl kl'
def plR (m m' : Nat) : List Nat → List Nat → Prop := pcR fun i i' => i + 4600 * m' = i' + 4600 * m
theorem enA.at (h : enA μ m m' uM pM pM') {i i' : Nat} (h1 : 4600 * m < i ∧ i < 4600 * m + uM) (h2 : i + 4600 * m' = i' + 4600 * m) {l l' kl kl' : List Int} (t1 : tMx μ m pM 7874 7875 i l) (t2 : tMx μ m' pM' 7874 7875 i' l') (t3 : tMx μ m pM 7877 7878 i kl) (t4 : tMx μ m' pM' 7877 7878 i' kl') : enE μ i i' l l' kl kl' := sorry
theorem enA.chain (h : enA μ m m' uM pM pM') (u4 : uM ≤ 4600) : ∀ {c c' : List Nat} {a a' : Int}, tSg μ a c (-2) → tSg μ a' c' (-2) → lkE a a' → (∀ i ∈ c, 4600 * m < i ∧ i < 4600 * m + uM) → (∀ i ∈ c', 4600 * m' < i ∧ i < 4600 * m' + uM) → plR m m' c c' := sorry
theorem wsR_its {j : Nat} : ∀ {L L' : List We}, wsR S t R L L' → itsE R (decide (S 12 t j = 12)) (wV L j) (wV L' j) := sorry
theorem un_eq (h : enA μ m m' uM pM pM') : ∀ {c c' : List Nat} {U U' : List Un}, plR m m' c c' → tUs μ m pM c U → tUs μ m' pM' c' U' → (∀ i ∈ c, 4600 * m < i ∧ i < 4600 * m + uM) → U = U' := sorry
theorem en_ws (ts : TS μ s S N) (h : enA μ m m' uM pM pM') (tO : (t : Int) < S 0 0 0 ∧ S 2 t 0 = 1) : ∀ {c c' : List Nat} {L L' : List We}, plR m m' c c' → tEs S μ m s pM ε t c L → tEs S μ m' s pM' ε' t c' L' → (∀ i ∈ c, 4600 * m < i ∧ i < 4600 * m + uM) → (∀ (i i' : Nat) (x y : We), x ∈ L → y ∈ L' → S 12 t x.1 = 12 → ε x.2.2.2.2.2 = i → ε' y.2.2.2.2.2 = i' → i + 4600 * m' = i' + 4600 * m → x.1 = y.1 → lkE (μ 7871 i) (μ 7871 i') ∧ lkE (μ 7872 i) (μ 7872 i') → R x.2.2.2.2.2 y.2.2.2.2.2) → wsR S t R L L' := sorry
theorem tH.kt (ts : TS μ s S N) (H : tH S μ m s g.1 (fun _ => true) g.2.1 g.2.2.1 g.2.2.2 ε W c uc own uM pM) {r : Nat} (hr : r < g.1) {x : We} (hx : x ∈ W r) (k : S 12 (g.2.1 r) x.1 = 12) : (x.2.2.2.2.2 < g.1 ∧ r < x.2.2.2.2.2) ∧ S 13 (g.2.1 r) x.1 = g.2.1 x.2.2.2.2.2 := sorry
theorem en_bw (ts : TS μ s S N) (h : enA μ m m' uM pM pM') (u4 : uM ≤ 4600) (H : tH S μ m s g.1 (fun _ => true) g.2.1 g.2.2.1 g.2.2.2 ε W c uc own uM pM) (H' : tH S μ m' s g'.1 (fun _ => true) g'.2.1 g'.2.2.1 g'.2.2.2 ε' W' c' uc' own' uM pM') : ∀ (n r r' : Nat), g.1 ≤ r + n → r < g.1 → r' < g'.1 → g.2.1 r = g'.2.1 r' → lkE (μ 7871 (ε r)) (μ 7871 (ε' r')) ∧ lkE (μ 7872 (ε r)) (μ 7872 (ε' r')) → eqT S g g' n r r' := sorry
end Sv
end
section
section Su
variable {μ : ab_M} {d : Nat} {S : SF} {N : NF} {m m' s uM pM uM' pM' : Nat} {g g' : He} {ε ε' : Nat → Nat} {W W' : Nat → List We} {c uc c' uc' : Nat → List Nat} {own own' : Nat → Nat} {z z' st st' : Nat → Nat}
theorem tw_isSameRoot {i i' : Nat} (he : i < 73600) (he' : i' < 73600) (f1 : μ 7869 i = -2) (f1' : μ 7869 i' = -2) (n1 : μ 7870 i = -2) (n1' : μ 7870 i' = -2) (r : ∀ x, (x = 7873 ∨ x = 7875 ∨ x = 7876 ∨ x = 7878) → μ x i = 0) (r' : ∀ x, (x = 7873 ∨ x = 7875 ∨ x = 7876 ∨ x = 7878) → μ x i' = 0) : ∃ x : Int, (ab_run wt (d + 4) 101 0 [(2, 7756), (0, i), (0, (i')), (3, 0), (3, 0)] [] μ) = some ((0, x), μ) ∧ (x = 0 ∨ x = 1) ∧ (x = 1 ↔ lkE (μ 7871 i) (μ 7871 i') ∧ lkE (μ 7872 i) (μ 7872 i')) := sorry
theorem tH.txt (H : tH S μ m s g.1 (fun _ => true) g.2.1 g.2.2.1 g.2.2.2 ε W c uc own uM pM) (fu : tFu m uM g.1 ε c uc) {i : Nat} (h1 : 4600 * m < i) (h2 : i < 4600 * m + uM) : ∃ l kl, tMx μ m pM 7874 7875 i l ∧ tMx μ m pM 7877 7878 i kl := sorry
theorem rng_mem {a n i : Nat} (h : i ∈ List.range' a n) : ∃ p, p < n ∧ i = a + p := sorry
theorem en_all (ts : TS μ s S N) (H : tH S μ m s g.1 (fun _ => true) g.2.1 g.2.2.1 g.2.2.2 ε W c uc own uM pM) (H' : tH S μ m' s g'.1 (fun _ => true) g'.2.1 g'.2.2.1 g'.2.2.2 ε' W' c' uc' own' uM' pM') (fu : tFu m uM g.1 ε c uc) (ly : ∀ x, x < g.1 → lyD S g.2.1 g.2.2.2 z st W c uc x) (ly' : ∀ x, x < g'.1 → lyD S g'.2.1 g'.2.2.2 z' st' W' c' uc' x) (s0 : st 0 = 4600 * m + 1) (s0' : st' 0 = 4600 * m' + 1) (no : tNo μ m uM g.1 ε) (no' : tNo μ m' uM' g'.1 ε') (dn : hDn S g (fun _ => true)) (nr : noOr S g.1 (fun _ => true) g.2.1 g.2.2.1 (fun _ => False)) (e0 : hEq S g g') : enA μ m m' uM pM pM' ∧ uM ≤ uM' := sorry
theorem tw_s91 {P : Nat → Prop} (hm : m < 16) (hm' : m' < 16) (hu : μ 7867 m = (uM : Int)) (u4 : uM ≤ 4600) (hP : ∀ k, k < uM → ∃ x : Int, (ab_run wt (d + 4) 101 0 [(2, 7756), (0, (((4600 * m + k : Nat) : Int))), (0, (((4600 * m' + k : Nat) : Int))), (3, 0), (3, 0)] [] μ) = some ((0, x), μ) ∧ (x = 0 ∨ x = 1) ∧ (x = 1 ↔ P k)) : ∀ (q i : Nat), i + q = uM → ((ab_run wt (d + 5) 274 91 [(2, 7756), (0, m), (0, (m')), (0, 0), (0, i)] [] μ) = some ((0, 0), μ)) ∧ ∃ v : Int, (ab_run wt (d + 5) 274 91 [(2, 7756), (0, m), (0, (m')), (0, 1), (0, i)] [] μ) = some ((0, v), μ) ∧ (v = 0 ∨ v = 1) ∧ (v = 1 ↔ ∀ k, i ≤ k → k < uM → P k) := sorry
end Su
end
section
section Sq
variable {μ : ab_M} {d : Nat} {S : Nat → SF} {N : Nat → NF} {g g' : He} {s s' k k2 : Nat}
theorem tw_same (hk : k < 12) (hk2 : k2 < 12) (fl : μ 7862 k = 0 ∨ μ 7862 k = 1 ∧ mT (S s) (N s) μ k s g) (fl2 : μ 7862 k2 = 0 ∨ μ 7862 k2 = 1 ∧ mT (S s') (N s') μ k2 s' g') :
    (ab_run wt (d + 5) 274 0 [(2, 7756), (0, k), (0, k2), (3, 0), (3, 0)] [] μ) = some ((0, if μ 7862 k = 0 then -2 else if μ 7862 k2 = 0 then -2 else saV (S s) s s' g g'), μ) := sorry
end Sq
end
section
section Sz
variable {μ : ab_M} {S : SF} {N : NF} {m s uM pM k : Nat} {g h : He} {ε : Nat → Nat} {W : Nat → List We} {c uc : Nat → List Nat} {own : Nat → Nat}
theorem tH.kd (ts : TS μ s S N) (H : tH S μ m s g.1 (fun _ => true) g.2.1 g.2.2.1 g.2.2.2 ε W c uc own uM pM) : ∀ (f r : Nat), r < g.1 → hKt S g f r := sorry
theorem mT.kd (t : mT S N μ k s g) : hKd S g := sorry
theorem hEq.ty0 (e : hEq S h g) : h.2.1 0 = g.2.1 0 := sorry
end Sz
section Sy
variable {μ ν : ab_M} {d : Nat} {S : Nat → SF} {N : Nat → NF} {bs : Nat → Nat} {h h' g g' : He} {s s' k k2 : Nat}
theorem same_both {D : Nat} (hD : 1300 ≤ D) (hk : k < 12) (hk2 : k2 < 12) (f0 : μ (6314 + 27 * k) 0 = ν 7862 k) (f02 : μ (6314 + 27 * k2) 0 = ν 7862 k2) (fl : ν 7862 k = 0 ∨ ν 7862 k = 1 ∧ mC (S s) (N s) μ k s (bs s) h ∧ mT (S s) (N s) ν k s g ∧ hEq (S s) h g) (fl2 : ν 7862 k2 = 0 ∨ ν 7862 k2 = 1 ∧ mC (S s') (N s') μ k2 s' (bs s') h' ∧ mT (S s') (N s') ν k2 s' g' ∧ hEq (S s') h' g') :
    ∃ v, (ab_run wc ((D + 1)) 501 0 [(2, 1), (0, k), (0, k2), (3, 0), (3, 0)] [] μ) = some ((0, v), μ) ∧ (ab_run wt (d + 5) 274 0 [(2, 7756), (0, k), (0, k2), (3, 0), (3, 0)] [] ν) = some ((0, v), ν) := sorry
end Sy
end
section
section Rl
variable {S : SF} {N : NF} {μ : ab_M} {h g : He} {m s uM pM : Nat} {ε : Nat → Nat} {W : Nat → List We} {c uc : Nat → List Nat} {own : Nat → Nat}
theorem wV_cons {z : We} {W : List We} {k : Nat} : wV (z :: W) k = if z.1 = k then z.2 :: wV W k else wV W k := sorry
theorem wV_chl {t k q : Nat} {W : List We} {y : It} (hk : S 12 t k = 12) (hy : (wV W k)[q]? = some y) : y.2.2.2.2 ∈ chl S t W := sorry
theorem chl_pos {t : Nat} : ∀ {W : List We}, (chl S t W).Nodup → ∀ {j i p q : Nat} {x y : It}, S 12 t j = 12 → S 12 t i = 12 → (wV W j)[p]? = some x → (wV W i)[q]? = some y → x.2.2.2.2 = y.2.2.2.2 → j = i ∧ p = q := sorry
theorem tH.uq (H : tH S μ m s g.1 (fun _ => true) g.2.1 g.2.2.1 g.2.2.2 ε W c uc own uM pM) {a b j i p q : Nat} {x y : It} (ha : a < g.1) (hb : b < g.1) (hj : S 12 (g.2.1 a) j = 12) (hi : S 12 (g.2.1 b) i = 12) (hx : (g.2.2.1 a j)[p]? = some x) (hy : (g.2.2.1 b i)[q]? = some y) (e : x.2.2.2.2 = y.2.2.2.2) : a = b ∧ j = i ∧ p = q := sorry
theorem itsE.gt {R : Nat → Nat → Prop} {rc : Bool} : ∀ {L L' : List It} {p : Nat} {t : It}, itsE R rc L L' → L[p]? = some t → ∃ t', L'[p]? = some t' ∧ (t.1 = t'.1 ∧ t.2.1 = t'.2.1 ∧ t.2.2.1 = t'.2.2.1 ∧ t.2.2.2.1 = t'.2.2.2.1) ∧ (rc = true → R t.2.2.2.2 t'.2.2.2.2) := sorry
noncomputable def rlb (g : He) (pr : Nat → Nat × Nat × Nat) (x : Nat) : Nat := if w : (pr x).1 < x then ((g.2.2.1 (rlb g pr (pr x).1) (pr x).2.1)[(pr x).2.2]?.getD (0, [], 0, [], 0)).2.2.2.2 else 0
termination_by x
decreasing_by exact w
variable {pr : Nat → Nat × Nat × Nat}
theorem rlb_0 : rlb g pr 0 = 0 := sorry
def prO (S : SF) (h : He) (pr : Nat → Nat × Nat × Nat) : Prop := (∀ a, 0 ≤ a → a < h.1 → ∀ j, j < fCt S (h.2.1 a) → S 12 (h.2.1 a) j = 12 → ∀ (p : Nat) (t : It), (h.2.2.1 a j)[p]? = some t → pr t.2.2.2.2 = (a, j, p)) ∧
  ∀ x, 0 < x → x < h.1 → (0 ≤ (pr x).1 ∧ (pr x).1 < x) ∧ (pr x).2.1 < fCt S (h.2.1 (pr x).1) ∧ S 12 (h.2.1 (pr x).1) (pr x).2.1 = 12 ∧ ∃ t, (h.2.2.1 (pr x).1 (pr x).2.1)[(pr x).2.2]? = some t ∧ t.2.2.2.2 = x
theorem rlb_ch (u : prO S h pr) {f a j p : Nat} {t : It} (e : eqT S h g f a (rlb g pr a)) (ha : a < t.2.2.2.2) (hj : j < fCt S (h.2.1 a)) (h12 : S 12 (h.2.1 a) j = 12) (ht : (h.2.2.1 a j)[p]? = some t) : ∃ f' t', (g.2.2.1 (rlb g pr a) j)[p]? = some t' ∧ t'.2.2.2.2 = rlb g pr t.2.2.2.2 ∧ eqT S h g f' t.2.2.2.2 t'.2.2.2.2 := sorry
theorem rlb_eq (u : prO S h pr) (e : hEq S h g) : ∀ x, x < h.1 → ∃ f, eqT S h g f x (rlb g pr x) := sorry
theorem rlb_inj (u : prO S h pr) (e : hEq S h g) (H : tH S μ m s g.1 (fun _ => true) g.2.1 g.2.2.1 g.2.2.2 ε W c uc own uM pM) (dn : hDn S g (fun _ => true)) : ∀ x y, x < h.1 → y < h.1 → rlb g pr x = rlb g pr y → x = y := sorry
end Rl
end
section
section Rl
variable {S : SF} {N : NF} {μ : ab_M} {h g : He} {m s uM pM : Nat} {ε : Nat → Nat} {W : Nat → List We} {c uc : Nat → List Nat} {own : Nat → Nat} {pr : Nat → Nat × Nat × Nat} {I : Nat → Nat}
noncomputable def rlI (h g : He) (pr : Nat → Nat × Nat × Nat) (y : Nat) : Nat := if w : ∃ x, x < h.1 ∧ rlb g pr x = y then Classical.choose w else 0
theorem rlI_eq (inj : ∀ x y, x < h.1 → y < h.1 → rlb g pr x = rlb g pr y → x = y) {x : Nat} (hx : x < h.1) : rlI h g pr (rlb g pr x) = x := sorry
def rlT (I : Nat → Nat) (b : Bool) (t : It) : It := (t.1, t.2.1, t.2.2.1, t.2.2.2.1, if b = true then I t.2.2.2.2 else t.2.2.2.2)
def rlW (S : SF) (t : Nat) (I : Nat → Nat) (y : We) : We := (y.1, rlT I (decide (S 12 t y.1 = 12)) y.2)
theorem wV_rl {t j : Nat} : ∀ {W : List We}, wV (W.map (rlW S t I)) j = (wV W j).map (rlT I (decide (S 12 t j = 12))) := sorry
theorem tEs.rl {ε' : Nat → Nat} {t : Nat} : ∀ {c : List Nat} {W : List We}, tEs S μ m s pM ε t c W → (∀ y ∈ W, S 12 t y.1 = 12 → ε' (I y.2.2.2.2.2) = ε y.2.2.2.2.2) → tEs S μ m s pM ε' t c (W.map (rlW S t I)) := sorry
theorem tEs_lt {t : Nat} : ∀ {c : List Nat} {W : List We}, tEs S μ m s pM ε t c W → ∀ y ∈ W, y.1 < fCt S t := sorry
theorem rlb_bk (u : prO S h pr) (e : hEq S h g) (dn : hDn S h (fun _ => true)) {r j p : Nat} {t' : It} (hr : r < h.1) (hj : j < fCt S (h.2.1 r)) (h12 : S 12 (h.2.1 r) j = 12) (ht : (g.2.2.1 (rlb g pr r) j)[p]? = some t') : ∃ t, (h.2.2.1 r j)[p]? = some t ∧ t.2.2.2.2 < h.1 ∧ r < t.2.2.2.2 ∧ rlb g pr t.2.2.2.2 = t'.2.2.2.2 := sorry
theorem tH.rl (u : prO S h pr) (e : hEq S h g) (H : tH S μ m s g.1 (fun _ => true) g.2.1 g.2.2.1 g.2.2.2 ε W c uc own uM pM) (dn : hDn S h (fun _ => true)) (dg : hDn S g (fun _ => true)) (cd : cutd S h) (ch : hCn S h) (cg : hCn S g) (h0 : 0 < h.1) : ∃ W' own', tH S μ m s h.1 (fun _ => true) h.2.1 h.2.2.1 h.2.2.2 (fun r => ε (rlb g pr r)) W' (fun r => c (rlb g pr r)) (fun r => uc (rlb g pr r)) own' uM pM := sorry
theorem prO.no (u : prO S h pr) : noOr S h.1 (fun _ => true) h.2.1 h.2.2.1 (fun _ => False) := sorry
theorem TC.rl (g0 : gh S m = 0) (u : prO S h pr) (e : hEq S h g) (H : tH S μ m s g.1 (fun _ => true) g.2.1 g.2.2.1 g.2.2.2 ε W c uc own uM pM) (no : noOr S g.1 (fun _ => true) g.2.1 g.2.2.1 (fun _ => False)) (tc : TC S μ m g.1 (fun _ => true) g.2.1 g.2.2.1 g.2.2.2) (dn : hDn S h (fun _ => true)) (cd : cutd S h) (ch : hCn S h) (cg : hCn S g) (h0 : 0 < h.1) : TC S μ m h.1 (fun _ => true) h.2.1 h.2.2.1 h.2.2.2 := sorry
def dpR (pr : Nat → Nat × Nat × Nat) (x : Nat) : Nat := if w : (pr x).1 < x then dpR pr (pr x).1 + 1 else 1
termination_by x
decreasing_by exact w
theorem dpR_0 : dpR pr 0 = 1 := sorry
theorem dpR_1 {x : Nat} : 1 ≤ dpR pr x := sorry
theorem dpR_ch (u : prO S h pr) {r j : Nat} {q : It} (dn : hDn S h (fun _ => true)) (hr : r < h.1) (hj : j < fCt S (h.2.1 r)) (h12 : S 12 (h.2.1 r) j = 12) (hq : q ∈ h.2.2.1 r j) : dpR pr q.2.2.2.2 = dpR pr r + 1 := sorry
def oneR (S : SF) (t : Nat) (v : Nat → List It) : Prop := ∀ j k, j < fCt S t → k < fCt S t → j ≠ k → 0 ≤ S 15 t j → S 15 t k = S 15 t j → v j ≠ [] → v k = []
theorem hIn.of (u : prO S h pr) (dn : hDn S h (fun _ => true)) (h0 : 0 < h.1) (w : hWell S h) (nm : hNm S h) (d12 : dpS S h ≤ 12) (on : ∀ r, r < h.1 → oneR S (h.2.1 r) (h.2.2.1 r)) : hIn S h (dpR pr) := sorry
end Rl
end
section
section Uk
variable {S : SF} {T T' : Nat → Int} {e e' : Nat}
def onT (T : Nat → Int) (p : Nat) (l : List Int) : Prop := slc T p l.length = l
theorem slc_app : ∀ (a b p : Nat), slc T p (a + b) = slc T p a ++ slc T (p + a) b := sorry
theorem onT.app {p : Nat} {a b : List Int} (h : onT T p (a ++ b)) : onT T p a ∧ onT T (p + a.length) b := sorry
theorem onT.head {p : Nat} {x : Int} {l : List Int} (h : onT T p (x :: l)) : T p = x ∧ onT T (p + 1) l := sorry
theorem onT.at {p n q : Nat} (h : onT T' p (slc T q n)) {i : Nat} (hi : i < n) : T' (p + i) = T (q + i) := sorry
theorem vrF_loc {f1 : Nat} : ∀ (f k p acc : Nat) {u p' : Nat}, vrF T e f1 f k p acc = .inr (u, p') → p < p' ∧ ∀ (f2 s : Nat), (∀ i, i < p' - p → T' (s + i) = T (p + i)) → s + (p' - p) ≤ e' → vrF T' e' f2 f k s acc = .inr (u, s + (p' - p)) := sorry
theorem vrd_loc {p u p' : Nat} (h : vrd T e p = .inr (u, p')) : p < p' ∧ ∀ s, (∀ i, i < p' - p → T' (s + i) = T (p + i)) → s + (p' - p) ≤ e' → vrd T' e' s = .inr (u, s + (p' - p)) := sorry
theorem psV_loc {w : Int} {p p' : Nat} (h : psV w T e p = .inr p') : p ≤ p' ∧ ∀ s, (∀ i, i < p' - p → T' (s + i) = T (p + i)) → s + (p' - p) ≤ e' → psV w T' e' s = .inr (s + (p' - p)) := sorry
def unQ (S : SF) (t : Nat) (u : Un) : Prop := (1 ≤ u.1 ∧ u.1 ≤ 536870911 ∧ (u.2.1 = 0 ∨ u.2.1 = 1 ∨ u.2.1 = 2 ∨ u.2.1 = 5)) ∧
  (fNo (S 10 t) u.1 (fCt S t) 0 < 0 ∨ (¬ (sPac S t (fNo (S 10 t) u.1 (fCt S t) 0).toNat ∧ u.2.1 = 2) ∧ u.2.1 ≠ wrF S t (fNo (S 10 t) u.1 (fCt S t) 0).toNat)) ∧
  ∀ (T : Nat → Int) (e p : Nat), onT T p u.2.2 → p + u.2.2.length ≤ e → psV u.2.1 T e p = .inr (p + u.2.2.length)
def ut9 (S : SF) (t j : Nat) (q : It) : Prop := (S 12 t j = 9 → utf q.2.2.2.1 = true) ∧ (S 14 t j = 9 → utf q.2.1 = true)
theorem utf_nil : utf [] = true := sorry
theorem rkY_rg {p n w q : Nat} (h : rkY T e p = .inr (n, w, q)) : p < q ∧ (1 ≤ n ∧ n ≤ 536870911) ∧ (w = 0 ∨ w = 1 ∨ w = 2 ∨ w = 5) := sorry
theorem unQ.of {t p n w q q' : Nat} (hk : rkY T e p = .inr (n, w, q)) (hu : fNo (S 10 t) n (fCt S t) 0 < 0 ∨ (¬ (sPac S t (fNo (S 10 t) n (fCt S t) 0).toNat ∧ (w : Int) = 2) ∧ (w : Int) ≠ wrF S t (fNo (S 10 t) n (fCt S t) 0).toNat)) (hp : psV (w : Int) T e q = .inr q') : unQ S t ((n : Int), (w : Int), slc T q (q' - q)) := sorry
end Uk
end
section
section Hu
variable {S : SF} {N : NF} {T : Nat → Int} {h h' : He} {r j : Nat}
def okI (S : SF) (h : He) (r j : Nat) (q : It) : Prop := ut9 S (h.2.1 r) j q ∧ (S 12 (h.2.1 r) j = 12 → q.2.2.2.2 < h.1 ∧ h.2.1 q.2.2.2.2 = (S 13 (h.2.1 r) j).toNat)
def hU (S : SF) (h : He) : Prop := ∀ r, r < h.1 → (∀ j q, q ∈ h.2.2.1 r j → okI S h r j q) ∧ ∀ u ∈ h.2.2.2 r, unQ S (h.2.1 r) u
def sKp (h h' : He) : Prop := h.1 ≤ h'.1 ∧ ∀ x, x < h.1 → h'.2.1 x = h.2.1 x
theorem sKp.refl : sKp h h := sorry
theorem sKp.trans {h'' : He} (a : sKp h h') (b : sKp h' h'') : sKp h h'' := sorry
theorem upV_mem {V : Nat → Nat → List It} {l : List It} {a c : Nat} {q : It} (w : q ∈ upV V r j l a c) : q ∈ V a c ∨ (a = r ∧ c = j ∧ q ∈ l) := sorry
theorem hU.vup {V' : Nat → Nat → List It} (u : hU S h) (hV : ∀ a c q, a < h.1 → q ∈ V' a c → q ∈ h.2.2.1 a c ∨ (a = r ∧ c = j ∧ okI S h r j q)) : hU S (h.1, h.2.1, V', h.2.2.2) := sorry
theorem hU.orp (u : hU S h) (t : Nat) : hU S (hOrp h t) := sorry
theorem sKp.orp {t : Nat} : sKp h (hOrp h t) := sorry
theorem kDp_mem {k v : Int} {l : List Int} {q : It} {L : List It} (w : q ∈ kDp k v l L) : q ∈ L := sorry
theorem hU.set {key : Int × List Int} {v : Int} {l : List Int} (u : hU S h) (h12 : S 12 (h.2.1 r) j ≠ 12) (hl : S 12 (h.2.1 r) j = 9 → utf l = true) (hk : S 11 (h.2.1 r) j = 3 → S 14 (h.2.1 r) j = 9 → utf (kyE (S 14 (h.2.1 r) j) key).2 = true) : hU S (hSet S N h r j key v l) := sorry
theorem hU.pair {t : It} (u : hU S h) (it : okI S h r j t) : hU S (hPair S h r j t) := sorry
theorem hU.rec {key : Int × List Int} (u : hU S h) (hr : r < h.1) (h12 : S 12 (h.2.1 r) j = 12) (hk : S 11 (h.2.1 r) j = 3 → S 14 (h.2.1 r) j = 9 → utf (kyE (S 14 (h.2.1 r) j) key).2 = true) : hU S (hRec S h r j key) := sorry
theorem sKp.rec {key : Int × List Int} : sKp h (hRec S h r j key) := sorry
theorem sKp.set {key : Int × List Int} {v : Int} {l : List Int} : sKp h (hSet S N h r j key v l) := sorry
theorem sKp.pair {t : It} : sKp h (hPair S h r j t) := sorry
theorem hU.unk {x : Un} (u : hU S h) (hx : unQ S (h.2.1 r) x) : hU S (hUnk h r x) := sorry
theorem hU.ent (u : hU S h) (hr : r < h.1) (h12 : S 12 (h.2.1 r) j = 12) (m3 : S 11 (h.2.1 r) j ≠ 3) : hU S (hEnt S h r j).1 ∧ sKp h (hEnt S h r j).1 ∧ (hEnt S h r j).2 < (hEnt S h r j).1.1 ∧ (hEnt S h r j).1.2.1 (hEnt S h r j).2 = (S 13 (h.2.1 r) j).toNat := sorry
end Hu
end
section
section Su
variable {S : SF} {N : NF} {T : Nat → Int} {r j e : Nat}
def RuK (S : SF) (rec : Rdr) : Prop := ∀ (r e dp p : Nat) (σ σ' : Sg), rec r e dp p σ = .inr σ' → r < σ.1.1 → hU S σ.1 → hU S σ'.1 ∧ sKp σ.1 σ'.1
theorem scR_u {k : Int} {p q : Nat} {v : Int} {l : List Int} (w : scR k T e p = .inr (v, l, q)) (z : k = 9) : utf l = true := sorry
theorem sPk_U {last : Nat} : ∀ (f p : Nat) (σ σ' : Sg), sPk S N T r j last f p σ = .inr σ' → sPac S (σ.1.2.1 r) j → hU S σ.1 → hU S σ'.1 ∧ sKp σ.1 σ'.1 := sorry
def pU9 (S : SF) (t j : Nat) (h : He) (x : It) : Prop := ut9 S t j x ∧ (S 12 t j = 12 → x.2.2.2.2 < h.1 ∧ h.2.1 x.2.2.2.2 = (S 13 t j).toNat)
theorem pU9.to {t : Nat} {h h' : He} {x : It} (u : pU9 S t j h x) (k : sKp h h') : pU9 S t j h' x := sorry
theorem sPl_U {rec : Rdr} (hk : RuK S rec) {t dp : Nat} : ∀ (f p : Nat) (σ σ' : Sg) (x x' : It), sPl S T t j e dp rec f p σ x = .inr (σ', x') → hU S σ.1 → pU9 S t j σ.1 x → hU S σ'.1 ∧ sKp σ.1 σ'.1 ∧ pU9 S t j σ'.1 x' := sorry
theorem sPb_U {h : He} (u : hU S h) {t : Nat} : hU S (sPb S t j h).1 ∧ sKp h (sPb S t j h).1 ∧ pU9 S t j (sPb S t j h).1 (sPb S t j h).2 := sorry
theorem sOwn_U {rec : Rdr} (hk : RuK S rec) {c dp p q p' : Nat} {w : Int} {σ σ' : Sg} (e1 : sOwn S N T rec c r e dp p σ j w q = .inr (p', σ')) (hr : r < σ.1.1) (u : hU S σ.1) : hU S σ'.1 ∧ sKp σ.1 σ'.1 := sorry
theorem sFld_U {rec : Rdr} (hk : RuK S rec) {c dp p p' : Nat} {σ σ' : Sg} (e1 : sFld S N T rec c r e dp p σ = .inr (p', σ')) (hr : r < σ.1.1) (u : hU S σ.1) : hU S σ'.1 ∧ sKp σ.1 σ'.1 := sorry
theorem sRec_U : ∀ c, RuK S (sRec S N T c) := sorry
end Su
end
section
section Bk
variable {S : SF} {N : NF} {T : Nat → Int} {e p : Nat}
theorem vrF_vnF {f1 : Nat} : ∀ (f k p acc u : Nat), f + k = 9 → u < 2 ^ (64 - 7 * k) → onT T p (vnF f u) → p + (vnF f u).length ≤ e → vrF T e f1 (f + 1) k p acc = .inr (acc + u * 2 ^ (7 * k), p + (vnF f u).length) := sorry
theorem vrd_vnt {x : Int} (on : onT T p (vnt x)) (le : p + (vnt x).length ≤ e) : vrd T e p = .inr (uns x, p + (vnt x).length) := sorry
theorem uns_nt {n : Nat} (h : n < 18446744073709551616) : uns (n : Int) = n := sorry
theorem sRec_s {c r e dp p : Nat} {σ : Sg} : sRec S N T (c + 1) r e dp p σ = if p = e then .inr σ else match sFld S N T (sRec S N T c) c r e dp p σ with
    | .inl g => .inl g
    | .inr (p', σ') => sRec S N T c r e dp p' σ' := sorry
theorem mny_vnt {l : List Int} (on : onT T p (vnt (l.length : Int) ++ l)) (le : p + ((vnt (l.length : Int)).length + l.length) ≤ e) (e6 : e ≤ 60000) : mny T e p = .inr (l.length, p + (vnt (l.length : Int)).length) := sorry
theorem rkY_vnt {n w : Nat} (n1 : 1 ≤ n) (n2 : n ≤ 536870911) (w1 : w = 0 ∨ w = 1 ∨ w = 2 ∨ w = 5) (on : onT T p (vnt (8 * (n : Int) + w))) (le : p + (vnt (8 * (n : Int) + w)).length ≤ e) : rkY T e p = .inr (n, w, p + (vnt (8 * (n : Int) + w)).length) := sorry
theorem nmR_nmB {k v : Int} (on : onT T p (nmB k v)) (le : p + (nmB k v).length ≤ e) : ∃ v', nmR k T e p = .inr (v', p + (nmB k v).length) := sorry
theorem scR_stV {k v : Int} {l pc : List Int} (k0 : 0 ≤ k) (k1 : k ≤ 11) (on : onT T p (stV k v l pc)) (le : p + (stV k v l pc).length ≤ e) (e6 : e ≤ 60000) (hu : k = 9 → utf l = true) : ∃ v' l', scR k T e p = .inr (v', l', p + (stV k v l pc).length) ∧ l'.length ≤ l.length := sorry
theorem fNo_is {f : Nat → Int} {j : Nat} : ∀ (m i : Nat), i ≤ j → j < i + m → (∀ k, i ≤ k → k < i + m → f k = f j → k = j) → fNo f (f j) m i = j := sorry
theorem fNo_own (nu : nuOK S) {t j : Nat} (t1 : (t : Int) < S 0 0 0) (t2 : S 2 t 0 = 1) (hj : j < fCt S t) : fNo (S 10 t) (S 10 t j) (fCt S t) 0 = j := sorry
def cnS (σ σ' : Sg) (dv db : Int) : Prop := (σ'.2.1 : Int) ≤ σ.2.1 + dv ∧ (σ'.2.2 : Int) ≤ σ.2.2 + db
theorem cnS.trans {σ σ' σ'' : Sg} {a b c d : Int} (x : cnS σ σ' a b) (y : cnS σ' σ'' c d) : cnS σ σ'' (a + c) (b + d) := sorry
theorem cnS.le {σ σ' : Sg} {a b c d : Int} (x : cnS σ σ' a b) (h1 : a ≤ c) (h2 : b ≤ d) : cnS σ σ' c d := sorry
def bGo (S : SF) (N : NF) (T : Nat → Int) (r e dp p : Nat) (σ : Sg) (p' : Nat) (dv db : Int) : Prop := ∀ c, e < p + c → ∃ c' σ', e < p' + c' ∧ sRec S N T c r e dp p σ = sRec S N T c' r e dp p' σ' ∧ (hU S σ'.1 ∧ sKp σ.1 σ'.1) ∧ cnS σ σ' dv db
variable {r dp p' p'' : Nat} {σ : Sg} {a b a' b' : Int}
theorem bGo.refl (u : hU S σ.1) : bGo S N T r e dp p σ p 0 0 := sorry
theorem bGo.trans (x : bGo S N T r e dp p σ p' a b) (y : ∀ σ', hU S σ'.1 → sKp σ.1 σ'.1 → cnS σ σ' a b → bGo S N T r e dp p' σ' p'' a' b') : bGo S N T r e dp p σ p'' (a + a') (b + b') := sorry
theorem bGo.le (x : bGo S N T r e dp p σ p' a b) (h1 : a ≤ a') (h2 : b ≤ b') : bGo S N T r e dp p σ p' a' b' := sorry
theorem bGo.fld (hr : r < σ.1.1) (u : hU S σ.1) (pp : p < p') (pe : p < e) (x : ∀ c, e ≤ p + c → ∃ σ', sFld S N T (sRec S N T c) c r e dp p σ = .inr (p', σ') ∧ cnS σ σ' a b) : bGo S N T r e dp p σ p' a b := sorry
end Bk
end
section
section Bk
variable {S : SF} {N : NF} {T : Nat → Int} {g : He} {D : Nat → Nat} {e p r r' f j : Nat} {σ : Sg}
def BkR (S : SF) (N : NF) (T : Nat → Int) (g : He) (D : Nat → Nat) (f : Nat) : Prop := ∀ r', r' < g.1 → g.1 ≤ r' + f → ∀ (c r e p : Nat) (σ : Sg), r < σ.1.1 → hU S σ.1 → σ.1.2.1 r = g.2.1 r' → onT T p (stR S g f r') → p + (stR S g f r').length = e → e < p + c → e ≤ 60000 → (σ.2.1 : Int) + 6 * mzV S g f r' ≤ 4400 → (σ.2.2 : Int) + mzB S g f r' ≤ 8800 → ∃ σ', sRec S N T c r e (D r') p σ = .inr σ' ∧ cnS σ σ' (6 * mzV S g f r') (mzB S g f r')
def bkG (S : SF) (N : NF) (g : He) (D : Nat → Nat) : Prop := scOK S N ∧ nuOK S ∧ bnOK S ∧ hU S g ∧ hDn S g (fun _ => true) ∧ hTy S g ∧ hI S g ∧ (∀ r, r < g.1 → D r ≤ 12) ∧ ∀ r, r < g.1 → ∀ j, j < fCt S (g.2.1 r) → S 12 (g.2.1 r) j = 12 → ∀ q ∈ g.2.2.1 r j, D q.2.2.2.2 = D r + 1
noncomputable def ivB (S : SF) (g : He) (f t j : Nat) (q : It) : Int := 6 + (if S 12 t j = 12 then 6 * mzV S g f q.2.2.2.2 else 0)
noncomputable def ibB (S : SF) (g : He) (f t j : Nat) (q : It) : Int := q.2.1.length + q.2.2.2.1.length + (if S 12 t j = 12 then mzB S g f q.2.2.2.2 else 0)
theorem bkG.fd (G : bkG S N g D) (hr : r' < g.1) (hj : j < fCt S (g.2.1 r')) : fdOK S N (g.2.1 r') j := sorry
theorem bk_item (G : bkG S N g D) (IH : BkR S N T g D f) (hr' : r' < g.1) (hf : g.1 ≤ r' + (f + 1)) (hj : j < fCt S (g.2.1 r')) {q : It} (hq : q ∈ g.2.2.1 r' j) (m3 : S 11 (g.2.1 r') j ≠ 3) (np : ¬ sPac S (g.2.1 r') j) (hr : r < σ.1.1) (u : hU S σ.1) (ty : σ.1.2.1 r = g.2.1 r') (on : onT T p (stI S (g.2.1 r') j (stR S g f) q)) (le : p + (stI S (g.2.1 r') j (stR S g f) q).length ≤ e) (e6 : e ≤ 60000) (rv : (σ.2.1 : Int) + ivB S g f (g.2.1 r') j q ≤ 4400) (rb : (σ.2.2 : Int) + ibB S g f (g.2.1 r') j q ≤ 8800) :
    bGo S N T r e (D r') p σ (p + (stI S (g.2.1 r') j (stR S g f) q).length) (ivB S g f (g.2.1 r') j q) (ibB S g f (g.2.1 r') j q) := sorry
theorem sPk_back {last : Nat} {k : Int} : ∀ (L : List It) (f p : Nat) (σ : Sg), onT T p (pkB k L) → p + (pkB k L).length = last → last < p + f → (σ.2.1 : Int) + L.length ≤ 4400 → S 12 (σ.1.2.1 r) j = k → ∃ σ', sPk S N T r j last f p σ = .inr σ' ∧ cnS σ σ' L.length 0 := sorry
theorem bk_pack (G : bkG S N g D) (hr' : r' < g.1) (hj : j < fCt S (g.2.1 r')) (pa : sPac S (g.2.1 r') j) (hr : r < σ.1.1) (u : hU S σ.1) (ty : σ.1.2.1 r = g.2.1 r') (L : List It) (on : onT T p (stJ S (g.2.1 r') j (stR S g f) L)) (le : p + (stJ S (g.2.1 r') j (stR S g f) L).length ≤ e) (e6 : e ≤ 60000) (rv : (σ.2.1 : Int) + 2 + L.length ≤ 4400) :
    bGo S N T r e (D r') p σ (p + (stJ S (g.2.1 r') j (stR S g f) L).length) (2 + L.length) 0 := sorry
end Bk
end
section
section Bk
variable {S : SF} {N : NF} {T : Nat → Int} {g : He} {D : Nat → Nat} {e p r r' f j : Nat} {σ : Sg}
theorem stV_1 {k v : Int} {l pc : List Int} : 1 ≤ (stV k v l pc).length := sorry
theorem sPl_back (G : bkG S N g D) (IH : BkR S N T g D f) (hr' : r' < g.1) (hf : g.1 ≤ r' + (f + 1)) (hj : j < fCt S (g.2.1 r')) (m3 : S 11 (g.2.1 r') j = 3) {q x : It} (hq : q ∈ g.2.2.1 r' j) (u : hU S σ.1) (on : onT T p (stE S (g.2.1 r') j (stR S g f) q)) (ee : p + (stE S (g.2.1 r') j (stR S g f) q).length = e) (e6 : e ≤ 60000) {c : Nat} (hc : e ≤ p + c) (rv : (σ.2.1 : Int) + 4 + (if S 12 (g.2.1 r') j = 12 then 6 * mzV S g f q.2.2.2.2 else 0) ≤ 4400) (rb : (σ.2.2 : Int) + ibB S g f (g.2.1 r') j q ≤ 8800) :
    ∃ σ' x', sPl S T (g.2.1 r') j e (D r') (sRec S N T c) c p σ x = .inr (σ', x') ∧ cnS σ σ' (4 + (if S 12 (g.2.1 r') j = 12 then 6 * mzV S g f q.2.2.2.2 else 0)) (ibB S g f (g.2.1 r') j q) := sorry
theorem bk_map (G : bkG S N g D) (IH : BkR S N T g D f) (hr' : r' < g.1) (hf : g.1 ≤ r' + (f + 1)) (hj : j < fCt S (g.2.1 r')) {q : It} (hq : q ∈ g.2.2.1 r' j) (m3 : S 11 (g.2.1 r') j = 3) (hr : r < σ.1.1) (u : hU S σ.1) (ty : σ.1.2.1 r = g.2.1 r') (on : onT T p (stI S (g.2.1 r') j (stR S g f) q)) (le : p + (stI S (g.2.1 r') j (stR S g f) q).length ≤ e) (e6 : e ≤ 60000) (rv : (σ.2.1 : Int) + ivB S g f (g.2.1 r') j q ≤ 4400) (rb : (σ.2.2 : Int) + ibB S g f (g.2.1 r') j q ≤ 8800) :
    bGo S N T r e (D r') p σ (p + (stI S (g.2.1 r') j (stR S g f) q).length) (ivB S g f (g.2.1 r') j q) (ibB S g f (g.2.1 r') j q) := sorry
theorem bk_items (G : bkG S N g D) (IH : BkR S N T g D f) (hr' : r' < g.1) (hf : g.1 ≤ r' + (f + 1)) (hj : j < fCt S (g.2.1 r')) (np : ¬ sPac S (g.2.1 r') j) (e6 : e ≤ 60000) : ∀ (L : List It) (p : Nat) (σ : Sg), (∀ q ∈ L, q ∈ g.2.2.1 r' j) → r < σ.1.1 → hU S σ.1 → σ.1.2.1 r = g.2.1 r' → onT T p (L.flatMap (stI S (g.2.1 r') j (stR S g f))) → p + (L.flatMap (stI S (g.2.1 r') j (stR S g f))).length ≤ e → (σ.2.1 : Int) + (6 * L.length + (if S 12 (g.2.1 r') j = 12 then 6 * sumI (mzV S g f) L else 0)) ≤ 4400 → (σ.2.2 : Int) + (byV L + (if S 12 (g.2.1 r') j = 12 then sumI (mzB S g f) L else 0)) ≤ 8800 →
    bGo S N T r e (D r') p σ (p + (L.flatMap (stI S (g.2.1 r') j (stR S g f))).length) (6 * L.length + (if S 12 (g.2.1 r') j = 12 then 6 * sumI (mzV S g f) L else 0)) (byV L + (if S 12 (g.2.1 r') j = 12 then sumI (mzB S g f) L else 0)) := sorry
end Bk
end
section
section Bk
variable {S : SF} {N : NF} {T : Nat → Int} {g : He} {D : Nat → Nat} {e p r r' f j : Nat} {σ : Sg}
theorem bk_unk {t : Nat} (e6 : e ≤ 60000) {dp : Nat} : ∀ (L : List Un) (p : Nat) (σ : Sg), (∀ x ∈ L, unQ S t x) → r < σ.1.1 → hU S σ.1 → σ.1.2.1 r = t → onT T p (stU L) → p + (stU L).length ≤ e → (σ.2.1 : Int) + 2 * L.length ≤ 4400 → (σ.2.2 : Int) + byU L ≤ 8800 → bGo S N T r e dp p σ (p + (stU L).length) (2 * L.length) (byU L) := sorry
theorem bk_field (G : bkG S N g D) (IH : BkR S N T g D f) (hr' : r' < g.1) (hf : g.1 ≤ r' + (f + 1)) (hj : j < fCt S (g.2.1 r')) (e6 : e ≤ 60000) (hr : r < σ.1.1) (u : hU S σ.1) (ty : σ.1.2.1 r = g.2.1 r') (on : onT T p (stG S (g.2.1 r') (stR S g f) (g.2.2.1 r') j)) (le : p + (stG S (g.2.1 r') (stR S g f) (g.2.2.1 r') j).length ≤ e) (rv : (σ.2.1 : Int) + 6 * cvF S g f r' j ≤ 4400) (rb : (σ.2.2 : Int) + cbF S g f r' j ≤ 8800) :
    bGo S N T r e (D r') p σ (p + (stG S (g.2.1 r') (stR S g f) (g.2.2.1 r') j).length) (6 * cvF S g f r' j) (cbF S g f r' j) := sorry
theorem sumB_0 {t : Nat} {F : Nat → Int} (h0 : ∀ i, 0 ≤ F i) : ∀ (m k : Nat), 0 ≤ sumB S t F m k := sorry
theorem bk_fields (G : bkG S N g D) (IH : BkR S N T g D f) (hr' : r' < g.1) (hf : g.1 ≤ r' + (f + 1)) (e6 : e ≤ 60000) : ∀ (m k p : Nat) (σ : Sg), k + m = fCt S (g.2.1 r') → r < σ.1.1 → hU S σ.1 → σ.1.2.1 r = g.2.1 r' → onT T p (stFs S (g.2.1 r') (stR S g f) (g.2.2.1 r') m k) → p + (stFs S (g.2.1 r') (stR S g f) (g.2.2.1 r') m k).length ≤ e → (σ.2.1 : Int) + 6 * sumB S (g.2.1 r') (cvF S g f r') m k ≤ 4400 → (σ.2.2 : Int) + sumB S (g.2.1 r') (cbF S g f r') m k ≤ 8800 → bGo S N T r e (D r') p σ (p + (stFs S (g.2.1 r') (stR S g f) (g.2.2.1 r') m k).length) (6 * sumB S (g.2.1 r') (cvF S g f r') m k) (sumB S (g.2.1 r') (cbF S g f r') m k) := sorry
theorem bk_all (G : bkG S N g D) : ∀ f, BkR S N T g D f := sorry
end Bk
end
section
section St
variable {S : SF} {N : NF} {μ : ab_M} {h h' : He}
def oA (S : SF) (h : He) : Prop := ∀ r, r < h.1 → oneR S (h.2.1 r) (h.2.2.1 r)
def mS (S : SF) (h : He) : Prop := mE S h ∧ hU S h ∧ oA S h
theorem mE.pr (e : mE S h) : ∃ pr, prO S h pr := sorry
theorem mE.eq (m : mE S h') (e : hEq S h h') : ∀ x, x < h'.1 → ∃ y f, eqT S h' h (f + 1) x y := sorry
theorem mS.cp (m : mE S h') (e : hEq S h h') (dn : hDn S h' (fun _ => true)) (u : hU S h) (o : oA S h) : mS S h' := sorry
theorem hIn.oA {D : Nat → Nat} (i : hIn S h D) : oA S h := sorry
theorem mS.in (m : mS S h) (dn : hDn S h (fun _ => true)) (w : hWell S h) (nm : hNm S h) (d12 : dpS S h ≤ 12) : ∃ D, hIn S h D ∧ D 0 = 1 := sorry
theorem mS.bk {D : Nat → Nat} (m : mS S h) (ok : scOK S N) (nu : nuOK S) (bn : bnOK S) (i : hIn S h D) : bkG S N h D := sorry
theorem onT_tpT {l : List Int} : onT (tpT l) 0 l := sorry
noncomputable def mgR (S : SF) (N : NF) (h h2 : He) : Flt ⊕ Sg := sRec S N (tpT (stM S h2)) ((stM S h2).length + 1) 0 (stM S h2).length 1 0 (h, 800, 2000)
theorem mgR_ok {D : Nat → Nat} (ok : scOK S N) (nu : nuOK S) (bn : bnOK S) {h2 : He} (m2 : mS S h2) (i2 : hIn S h2 D) (d2 : D 0 = 1) (v2 : vlS S h2 ≤ 400) (b2 : btS S h2 ≤ 2000) (l2 : (stM S h2).length ≤ 10400) (u : hU S h) (h0 : 0 < h.1) (ty : h.2.1 0 = h2.2.1 0) : ∃ σ, mgR S N h h2 = .inr σ := sorry
end St
end
section
section Rk
variable {μ μ' μ'' : ab_M} {d : Nat} {S : SF} {N : NF} {s b : Nat} {h : He} {al : Nat → Bool}
theorem c_keptV {k D : Nat} (hk : k < 12) (st : cSto S N μ 1255 2600 9000 12000 s b h) (w : hWell S h) (b1 : vlS S h ≤ 400) (b2 : btS S h ≤ 2000) (hD : 5300 ≤ D) (dn : hDn S h al) (a0 : al 0 = true) (hn : hNm S h) :
    R0 (ab_run wc ((D + 1)) 429 0 [(2, 1), (0, k)] [] μ) (fun v μ' => v = vlS S h ∧ μ' 1 14 = vlS S h ∧ μ' (6314 + 27 * k) 0 = 1 ∧ μ' 1 3 = -2 ∧ (∃ h', cSto S N μ' (6314 + 27 * k) 402 402 2008 s b h' ∧ hEq S h h' ∧ hWell S h' ∧ hDn S h' (fun _ => true) ∧ hNm S h' ∧ mE S h') ∧ frY (6314 + 27 * k) μ μ') := sorry
end Rk
section Mg
variable {μ μ' μ'' : ab_M} {d : Nat} {S : Nat → SF} {N : Nat → NF} {bs : Nat → Nat} {s s' k k2 : Nat} {h h' : He}
theorem c_isOneR {e : Nat} {S1 S2 : SF} {N1 N2 : NF} {b1 b2 : Nat} (hk : k < 12) (hk2 : k2 < 12) (st : cSto S1 N1 μ (6314 + 27 * k) 402 402 2008 s b1 h) (st2 : cSto S2 N2 μ (6314 + 27 * k2) 402 402 2008 s' b2 h') (h0 : 0 < h.1) (h0' : 0 < h'.1) : (ab_run wc (e + 1) 417 0 [(2, 1), (2, (((6314 + 27 * k : Nat) : Int))), (2, (((6314 + 27 * k2 : Nat) : Int)))] [] μ) = some ((0, if s = s' ∧ h.2.1 0 = h'.2.1 0 then 1 else 0), μ) := sorry
def frMg (k : Nat) (μ μ' : ab_M) : Prop := ∀ a i, ¬ inM 1255 a → ¬ inM (6314 + 27 * k) a → a ≠ 2 → a ≠ 1313 → (a ≠ 1312 ∨ i ≠ 1) → (a ≠ 1 ∨ (i < 14 ∨ 17 < i) ∧ (i < 25 ∨ 47 < i) ∧ i ≠ 22 ∧ i ≠ 29) → μ' a i = μ a i
theorem cSto.eq {S : SF} {N : NF} {A cr ci cb b : Nat} (st : cSto S N μ A cr ci cb s b h) (f : ∀ a, inM A a → ∀ i, μ' a i = μ a i) (g : ∀ a, a = 10 ∨ (b ≤ a ∧ a < b + 1240) → ∀ i, μ' a i = μ a i) : cSto S N μ' A cr ci cb s b h := sorry
theorem c_merge {D : Nat} (hD : 9000 ≤ D) (hk : k < 12) (hk2 : k2 < 12) (fl : μ (6314 + 27 * k) 0 = 0 ∨ μ (6314 + 27 * k) 0 = 1 ∧ mC (S s) (N s) μ k s (bs s) h ∧ mS (S s) h) (fl2 : μ (6314 + 27 * k2) 0 = 0 ∨ μ (6314 + 27 * k2) 0 = 1 ∧ mC (S s') (N s') μ k2 s' (bs s') h' ∧ mS (S s') h') (nu : nuOK (S s)) (bn : bnOK (S s))
    (tr : s = s' → ∀ hw σ, hEq (S s) h hw → mS (S s) hw → hWell (S s) hw → hDn (S s) hw (fun _ => true) → hNm (S s) hw → mgR (S s) (N s) hw h' = .inr σ → (0 ≤ vlS (S s) σ.1 ∧ vlS (S s) σ.1 < 1000000) ∧ (0 ≤ btS (S s) σ.1 ∧ btS (S s) σ.1 < 1000000000)) :
    R0 (ab_run wc ((D + 2)) 451 0 [(2, 1), (0, k), (0, k2), (3, 0)] [] μ) (fun v μ' => if μ (6314 + 27 * k) 0 = 0 then v = -2 ∧ μ' = μ else if μ (6314 + 27 * k2) 0 = 0 then v = -2 ∧ μ' = μ else if ¬ (s = s' ∧ h.2.1 0 = h'.2.1 0) then v = -2 ∧ μ' = μ else frMg k μ μ' ∧ ∃ hw σ, (hEq (S s) h hw ∧ mS (S s) hw ∧ hWell (S s) hw ∧ hDn (S s) hw (fun _ => true) ∧ hNm (S s) hw) ∧ mgR (S s) (N s) hw h' = .inr σ ∧
      if 400 < vlS (S s) σ.1 ∨ 2000 < btS (S s) σ.1 then v = -3 ∧ ∀ a, inM (6314 + 27 * k) a → ∀ i, μ' a i = μ a i else v = vlS (S s) σ.1 ∧ μ' (6314 + 27 * k) 0 = 1 ∧ ∃ h'', mC (S s) (N s) μ' k s (bs s) h'' ∧ hEq (S s) σ.1 h'' ∧ mS (S s) h'') := sorry
end Mg
end
section
section Mb
variable {S : SF} {N : NF} {h : He} {t j : Nat} {P : Nat → List Int}
theorem byt_app {a b : List Int} (x : byt a) (y : byt b) : byt (a ++ b) := sorry
theorem byt_fm {α : Type} {f : α → List Int} {L : List α} (x : ∀ q ∈ L, byt (f q)) : byt (L.flatMap f) := sorry
theorem lowB_byt {v : Int} : ∀ n i, byt (lowB v n i) := sorry
theorem nmB_byt {k v : Int} : byt (nmB k v) := sorry
theorem stV_byt {k v : Int} {l pc : List Int} (hl : byt l) (hp : k = 12 → byt pc) : byt (stV k v l pc) := sorry
theorem stE_byt {q : It} (hl : byt q.2.2.2.1) (hk : byt q.2.1) (hp : S 12 t j = 12 → byt (P q.2.2.2.2)) : byt (stE S t j P q) := sorry
theorem stJ_byt {L : List It} (hl : ∀ q ∈ L, byt q.2.2.2.1 ∧ byt q.2.1 ∧ (S 12 t j = 12 → byt (P q.2.2.2.2))) : byt (stJ S t j P L) := sorry
theorem stFs_byt {v : Nat → List It} (hl : ∀ j q, q ∈ v j → (∃ i, j = (S 20 t i).toNat ∧ i < fCt S t) → byt q.2.2.2.1 ∧ byt q.2.1 ∧ (S 12 t j = 12 → byt (P q.2.2.2.2))) : ∀ m k, k + m = fCt S t → byt (stFs S t P v m k) := sorry
theorem stR_byt (bn : bnOK S) (w : hWell S h) (dn : hDn S h (fun _ => true)) (nm : hNm S h) : ∀ f r, r < h.1 → byt (stR S h f r) := sorry
end Mb
section Mc
variable {μ μ' : ab_M} {d k : Nat}
theorem tpT_byt {O : List Int} (hb : byt O) {y : Nat} (hy : y < O.length) : O[y]? = some (tpT O y) ∧ 0 ≤ tpT O y ∧ tpT O y < 256 := sorry
theorem tw_mg84 {O : List Int} (lO : O.length ≤ 10400) (hb : byt O) : ∀ (w i : Nat) (μ : ab_M), i + w = O.length → tOu μ O → (∀ y, y < i → μ 7891 y = tpT O y) → ∃ μ', (ab_run wt (d + 1) 165 84 [(2, 7756), (0, k), (3, 0), (0, i)] [] μ) = (ab_run wt (d + 1) 165 84 [(2, 7756), (0, k), (3, 0), (0, (O.length))] [] μ') ∧ (∀ y, y < O.length → μ' 7891 y = tpT O y) ∧ ∀ a y, a ≠ 7891 → μ' a y = μ a y := sorry
end Mc
end
section
section Md
variable {μ μ' μ'' : ab_M} {d : Nat} {s n : Nat} {T : Nat → Int}
theorem tw_readOn {S : SF} {N : NF} {hw : He} {σ : Sg} {ε : Nat → Nat} {uM pM : Nat} {D : Nat → Nat} (td : TD (fun _ => none) (fun _ => False) S N 12 s μ hw (fun _ => true) ε uM pM) (e0 : ε 0 = 55200) (u8 : uM ≤ 801) (p2 : pM ≤ 2000) (g0 : S 99 0 0 = 0) (i : hIn S hw D) (d0 : D 0 = 1) (c : tIn μ n T) (n4 : n ≤ 10400) (he : μ 7756 179 = n) (ft : μ 7756 17 = 0) (eσ : sRec S N T (n + 1) 0 n 1 0 (hw, 800, 2000) = .inr σ) :
    (if 400 < vlS S σ.1 ∨ 2000 < btS S σ.1 then R0 (ab_run wt (d + 10) 267 0 [(2, 7756), (0, 55200), (3, 0)] [] μ) (fun v μ' => v = 0 ∧ frRt μ μ') else R0 (ab_run wt (d + 10) 267 0 [(2, 7756), (0, 55200), (3, 0)] [] μ) (fun v μ' => v = 1 ∧ (∃ al ε uM pM, TD (fun _ => none) (fun _ => False) S N 12 s μ' σ.1 al ε uM pM) ∧ frRt μ μ')) ∧ (0 ≤ vlS S σ.1 ∧ vlS S σ.1 < 1000000) ∧ (0 ≤ btS S σ.1 ∧ btS S σ.1 < 1000000000) := sorry
def frMt (k : Nat) (μ μ' : ab_M) : Prop := ∀ a i, ¬ mine 12 a i → ¬ mine k a i → (a < 7862 ∨ 7864 < a ∨ i ≠ 12 ∧ i ≠ k) → a ≠ 7885 → a ≠ 7886 → a ≠ 7891 → a ≠ 7887 → a ≠ 7888 → a ≠ 7889 → a ≠ 7890 → (a < 7892 ∨ 7920 < a) → a ≠ 7860 → (a ≠ 7756 ∨ i ≠ 179 ∧ i ≠ 172 ∧ i ≠ 175 ∧ i ≠ 177 ∧ i ≠ 17 ∧ i ≠ 18 ∧ i ≠ 130 ∧ (i < 154 ∨ 178 < i) ∧ i ≠ 179 ∧ (i < 180 ∨ 232 < i)) → μ' a i = μ a i
theorem tw_mergeK {S : SF} {N : NF} {k k2 : Nat} {g g' hw : He} {σ : Sg} (hk : k < 12) (hk2 : k2 < 12) (f1 : μ 7862 k = 1) (f2 : μ 7862 k2 = 1) (mt : mT S N μ k s g) (mt2 : mT S N μ k2 s g') (bn : bnOK S) (g0 : S 99 0 0 = 0) (rz : rtZ μ k) (ty : g.2.1 0 = g'.2.1 0) (eq : hEq S g hw) (ms : mS S hw) (ww : hWell S hw) (dnw : hDn S hw (fun _ => true)) (nmw : hNm S hw) (eσ : mgR S N hw g' = .inr σ) :
    R0 (ab_run wt (d + 11) 165 0 [(2, 7756), (0, k), (0, k2), (3, 0)] [] μ) (fun v μ' => frMt k μ μ' ∧ if 400 < vlS S σ.1 ∨ 2000 < btS S σ.1 then v = -3 ∧ ∀ a i, (mine k a i ∨ 7862 ≤ a ∧ a ≤ 7864 ∧ i = k) → a ≠ 7756 → a ≠ 7880 → μ' a i = μ a i else v = vlS S σ.1 ∧ μ' 7862 k = 1 ∧ ∃ g'', mT S N μ' k s g'' ∧ hEq S σ.1 g'') ∧ (0 ≤ vlS S σ.1 ∧ vlS S σ.1 < 1000000) ∧ (0 ≤ btS S σ.1 ∧ btS S σ.1 < 1000000000) := sorry
end Md
end
section
section Xr
variable {T : Nat → Int} {n : Nat} {k k2 k3 : Tok} {S : SF} {N : NF} {bd : Nat} {h h' : He} {K K' : List Fr} {X Y Z : Xs} {f : Flt} {key : Int × List Int} {r j : Nat} {v : Int} {l : List Int}
theorem rdS_u {t : Nat} {k : Tok} {p : Int × List Int × Tok} (e : rdS S N T n 9 t k = .inr p) : utf p.2.1 = true := sorry
def xHr (S : SF) (N : NF) (T : Nat → Int) (n bd : Nat) (h : He) (K : List Fr) (h' : He) (K' : List Fr) : Prop :=
  (h' = h ∧ (K' = K ∨ (∃ F, K = F :: K') ∨ ∃ F K0 G w j, K = F :: K0 ∧ G.1 = F.1 ∧ G.2.1 = F.2.1 ∧ w ≠ 0 ∧ K' = (w, F.2.1, j, []) :: G :: K0)) ∨
  ∃ F K0 G j key, K = F :: K0 ∧ G.1 = F.1 ∧ G.2.1 = F.2.1 ∧ F.2.1 < h.1 ∧ j < fCt S (h.2.1 F.2.1) ∧ (S 11 (h.2.1 F.2.1) j = 3 → S 14 (h.2.1 F.2.1) j = 9 → utf (kyE (S 14 (h.2.1 F.2.1) j) key).2 = true) ∧
    ((S 12 (h.2.1 F.2.1) j ≠ 12 ∧ ∃ k' p, tkO T n k' ∧ rdS S N T n (S 12 (h.2.1 F.2.1) j) (S 13 (h.2.1 F.2.1) j).toNat k' = .inr p ∧ h' = hSet S N h F.2.1 j key p.1 p.2.1 ∧ K' = G :: K0) ∨
     (S 12 (h.2.1 F.2.1) j = 12 ∧ bd + recs (G :: K0) + 1 ≤ 12 ∧ h' = hRec S h F.2.1 j key ∧ K' = (0, h.1, 0, []) :: G :: K0))
theorem xVal_r {F G : Fr} {K0 : List Fr} (g1 : G.1 = F.1) (g2 : G.2.1 = F.2.1) (tk : tkO T n k) (hr : F.2.1 < h.1) (hj : j < fCt S (h.2.1 F.2.1)) (hk : S 11 (h.2.1 F.2.1) j = 3 → S 14 (h.2.1 F.2.1) j = 9 → utf (kyE (S 14 (h.2.1 F.2.1) j) key).2 = true) (e : xVal S N T n bd h (G :: K0) F.2.1 j key k = .inr X) : xHr S N T n bd h (F :: K0) X.2.1 X.2.2 := sorry
theorem xStep_r (hT : ∀ k, k < n → 0 ≤ T k ∧ T k < 256) (q : xOK S X) (tk : tkO T n X.1) (e : xStep S N T n bd X = .inr Y) : xHr S N T n bd X.2.1 X.2.2 Y.2.1 Y.2.2 := sorry
theorem xIt_r {P : He → List Fr → Prop} (hT : ∀ k, k < n → 0 ≤ T k ∧ T k < 256) (st : ∀ h K h' K', P h K → xHr S N T n bd h K h' K' → P h' K') : ∀ (c : Nat) (X Z : Xs), xOK S X → tkO T n X.1 → P X.2.1 X.2.2 → xIt S N T n bd c X = .inr Z → P Z.2.1 Z.2.2 := sorry
theorem xHr.U {h' : He} {K K' : List Fr} (x : xHr S N T n bd h K h' K') (u : hU S h) : hU S h' := sorry
theorem oneR_set {t r : Nat} {V : Nat → Nat → List It} {l : List It} {j : Nat} (o : oneR S t (V r)) : oneR S t (upV (lvO S t r j V) r j l r) := sorry
theorem oneR_many {t : Nat} {V : Nat → Nat → List It} {l : List It} {r j : Nat} (o : oneR S t (V r)) (n : S 15 t j < 0) : oneR S t (upV V r j l r) := sorry
theorem lvO_r {t r j a : Nat} {V : Nat → Nat → List It} (h : a ≠ r) : lvO S t r j V a = V a := sorry
theorem xHr.O {h' : He} {K K' : List Fr} (ok : scOK S N) (x : xHr S N T n bd h K h' K') (ht : hTy S h) (o : oA S h) : oA S h' := sorry
end Xr
end
section
section Xu
variable {S : SF} {N : NF} {T : Nat → Int} {n bd : Nat} {h h' : He} {X : Xs} {K K' : List Fr}
theorem xHr.Ty (ok : scOK S N) (x : xHr S N T n bd h K h' K') (ht : hTy S h) : hTy S h' := sorry
theorem xRm_U (hT : ∀ k, k < n → 0 ≤ T k ∧ T k < 256) (ok : scOK S N) (e : xRm S N T n = .inr X) : hU S X.2.1 ∧ oA S X.2.1 := sorry
theorem xRl_U (hT : ∀ k, k < n → 0 ≤ T k ∧ T k < 256) (ok : scOK S N) (e : xRl S N T n = .inr h) : hU S h ∧ oA S h := sorry
end Xu
end
section
section Lu
variable {S : SF} {N : NF} {T : Nat → Int} {n r j : Nat} {h : He}
theorem kyE_nil {k : Int} : (kyE k (0, [])).2 = [] := sorry
theorem hU.set0 {v : Int} {l : List Int} (u : hU S h) (h12 : S 12 (h.2.1 r) j ≠ 12) (hl : S 12 (h.2.1 r) j = 9 → utf l = true) : hU S (hSet S N h r j (0, []) v l) := sorry
theorem hU.rec0 (u : hU S h) (hr : r < h.1) (h12 : S 12 (h.2.1 r) j = 12) : hU S (hRec S h r j (0, [])) := sorry
theorem hU.ent0 (u : hU S h) (hr : r < h.1) (h12 : S 12 (h.2.1 r) j = 12) : hU S (hEnt S h r j).1 ∧ sKp h (hEnt S h r j).1 ∧ (hEnt S h r j).2 < (hEnt S h r j).1.1 ∧ (hEnt S h r j).1.2.1 (hEnt S h r j).2 = (S 13 (h.2.1 r) j).toNat := sorry
theorem hU.hir {key : Int × List Int} (u : hU S h) (hr : r < h.1) (h12 : S 12 (h.2.1 r) j = 12) (hk : S 11 (h.2.1 r) j = 3 → S 14 (h.2.1 r) j = 9 → utf key.2 = true) : hU S (hIr S h r j key) ∧ sKp h (hIr S h r j key) ∧ h.1 < (hIr S h r j key).1 ∧ (hIr S h r j key).2.1 h.1 = (S 13 (h.2.1 r) j).toNat := sorry
theorem hU.his {key : Int × List Int} {v : Int} {l : List Int} (u : hU S h) (h12 : S 12 (h.2.1 r) j ≠ 12) (hl : S 12 (h.2.1 r) j = 9 → utf l = true) (hk : S 11 (h.2.1 r) j = 3 → S 14 (h.2.1 r) j = 9 → utf key.2 = true) : hU S (hIs S N h r j key v l) ∧ sKp h (hIs S N h r j key v l) := sorry
theorem lvR_u {k : Int} {t p q : Nat} {v : Int} {l : List Int} (e : lvR S k t T n p = .inr (v, l, q)) (z : k = 9) : utf l = true := sorry
def RlU (S : SF) (rec : Rl) : Prop := ∀ (r dp p L : Nat) (σ : Sg) (p' L' : Nat) (σ' : Sg), rec r dp p L σ = .inr (p', L', σ') → r < σ.1.1 → hU S σ.1 → hU S σ'.1 ∧ sKp σ.1 σ'.1
variable {rec : Rl}
theorem lIv_U (hr0 : RlU S rec) {dp p L p' L' : Nat} {key : Int × List Int} {σ σ' : Sg} (e : lIv S N T n rec r j dp key p L σ = .inr (p', L', σ')) (hr : r < σ.1.1) (u : hU S σ.1) (hk : S 11 (σ.1.2.1 r) j = 3 → S 14 (σ.1.2.1 r) j = 9 → utf key.2 = true) : hU S σ'.1 ∧ sKp σ.1 σ'.1 := sorry
theorem lIm_U (hr0 : RlU S rec) {dp : Nat} : ∀ (c : Nat) (last : Option (Int × List Int)) (p L : Nat) (σ : Sg) (p' L' : Nat) (σ' : Sg), lIm S N T n rec r j dp c last p L σ = .inr (p', L', σ') → r < σ.1.1 → hU S σ.1 → hU S σ'.1 ∧ sKp σ.1 σ'.1 := sorry
theorem lVl_U (hr0 : RlU S rec) {dp p L p' L' : Nat} {σ σ' : Sg} (e : lVl S N T n rec r dp j p L σ = .inr (p', L', σ')) (hr : r < σ.1.1) (u : hU S σ.1) : hU S σ'.1 ∧ sKp σ.1 σ'.1 := sorry
theorem lFl_U (hr0 : RlU S rec) {dp p L p' L' : Nat} {σ σ' : Sg} (e : lFl S N T n rec r dp j p L σ = .inr (p', L', σ')) (hr : r < σ.1.1) (u : hU S σ.1) : hU S σ'.1 ∧ sKp σ.1 σ'.1 := sorry
theorem lFs_U (hr0 : RlU S rec) {dp : Nat} : ∀ (w j p L : Nat) (σ : Sg) (p' L' : Nat) (σ' : Sg), lFs S N T n rec r dp w j p L σ = .inr (p', L', σ') → r < σ.1.1 → hU S σ.1 → hU S σ'.1 ∧ sKp σ.1 σ'.1 := sorry
theorem lRec_U : ∀ c, RlU S (lRec S N T n c) := sorry
theorem hU.new {t : Nat} : hU S (hNew t) := sorry
theorem lDc_U {t : Nat} (e : lDc S N T n t = .inr h) : hU S h := sorry
end Lu
end
section
section Du
variable {S : SF} {N : NF} {T : Nat → Int} {n r t j : Nat} {g : Bool}
theorem dBy_u {p w w' : Nat} {l : List Int} {k : Int} (e : dBy T n k p w = .inr (l, w')) (z : k = 9) : utf l = true := sorry
theorem dBo_u {p w w' : Nat} {l : List Int} {k : Int} {is : Prop} [Decidable is] (e : dBo T n k is p w = .inr (l, w')) (z : k = 9) : utf l = true := sorry
def uKp (S : SF) (σ σ' : Sx) : Prop := hU S σ'.1 ∧ sKp σ.1 σ'.1
theorem uKp.trans {σ σ' σ'' : Sx} (a : uKp S σ σ') (b : uKp S σ' σ'') : uKp S σ σ'' := sorry
def RxU (S : SF) (rec : Rx) : Prop := ∀ (r t dp at' data ps : Nat) (σ σ' : Sx), rec r t dp at' data ps σ = .inr σ' → r < σ.1.1 → σ.1.2.1 r = t → ((t : Int) < S 0 0 0 ∧ S 2 t 0 = 1) → hU S σ.1 → uKp S σ σ'
theorem dPut_U9 {v : Int} {l : List Int} {σ : Sx} (u : hU S σ.1) (ht : σ.1.2.1 r = t) (h12 : S 12 t j ≠ 12) (hl : S 12 t j = 9 → utf l = true) : uKp S σ (dPut S N g r j v l σ) := sorry
theorem dRn_U9 {σ : Sx} (u : hU S σ.1) (hr : r < σ.1.1) (ht : σ.1.2.1 r = t) (h12 : S 12 t j = 12) : uKp S σ (dRn S g r j σ) := sorry
theorem sKp.ty {h h' : He} (k : sKp h h') (hr : r < h.1) (ht : h.2.1 r = t) : r < h'.1 ∧ h'.2.1 r = t := sorry
theorem dNs_U9 (la : laOK S) (t1 : (t : Int) < S 0 0 0) (t2 : S 2 t 0 = 1) (bn : bnOK S) {at' data : Nat} : ∀ (q i : Nat) (σ : Sx), i + q ≤ fCt S t → r < σ.1.1 → σ.1.2.1 r = t → hU S σ.1 → uKp S σ (dNs S N g T r t at' data q i σ) := sorry
theorem dIt_U9 {b : Nat} {k : Int} (h12 : S 12 t j ≠ 12) (ek : k = S 12 t j) : ∀ (q i : Nat) (σ σ' : Sx), dIt S N g T n r j b k q i σ = .inr σ' → r < σ.1.1 → σ.1.2.1 r = t → hU S σ.1 → uKp S σ σ' := sorry
theorem dKy_u {pos d ps w w' : Nat} {v : Int} {l : List Int} (e : dKy S T n t j pos d ps w = .inr (v, l, w')) (z : S 14 t j = 9) : utf l = true := sorry
theorem t13 (ok : scOK S N) (t1 : (t : Int) < S 0 0 0) (t2 : S 2 t 0 = 1) (hj : j < fCt S t) (h12 : S 12 t j = 12) : (((S 13 t j).toNat : Nat) : Int) < S 0 0 0 ∧ S 2 (S 13 t j).toNat 0 = 1 := sorry
variable {rec : Rx}
theorem dPr_U9 (ok : scOK S N) (hr0 : RxU S rec) (t1 : (t : Int) < S 0 0 0) (t2 : S 2 t 0 = 1) (hj : j < fCt S t) {dp pos d ps : Nat} {key : Int × List Int} {σ σ' : Sx} (e : dPr S N T n rec r t j dp pos d ps key σ = .inr σ') (hr : r < σ.1.1) (ht : σ.1.2.1 r = t) (u : hU S σ.1) (hk : S 11 t j = 3 → S 14 t j = 9 → utf key.2 = true) : uKp S σ σ' := sorry
theorem dRw_U9 (ok : scOK S N) (hr0 : RxU S rec) (t1 : (t : Int) < S 0 0 0) (t2 : S 2 t 0 = 1) (hj : j < fCt S t) (hc : S 11 t j = 3 ∨ S 12 t j = 12) {dp q d ps : Nat} : ∀ (m pos : Nat) (last : Option (Int × List Int)) (σ σ' : Sx), dRw S N T n rec r t j dp q d ps m pos last σ = .inr σ' → r < σ.1.1 → σ.1.2.1 r = t → hU S σ.1 → uKp S σ σ' := sorry
theorem dPt_U9 (ok : scOK S N) (hr0 : RxU S rec) (t1 : (t : Int) < S 0 0 0) (t2 : S 2 t 0 = 1) (hj : j < fCt S t) {dp q : Nat} {σ σ' : Sx} (e : dPt S N g T n rec r t j dp q σ = .inr σ') (hr : r < σ.1.1) (ht : σ.1.2.1 r = t) (u : hU S σ.1) : uKp S σ σ' := sorry
theorem dPj_U9 (ok : scOK S N) (hr0 : RxU S rec) (t1 : (t : Int) < S 0 0 0) (t2 : S 2 t 0 = 1) (hj : j < fCt S t) {dp at' data ps p : Nat} {σ σ' : Sx} (e : dPj S N g T n rec r t dp at' data ps p j σ = .inr σ') (hr : r < σ.1.1) (ht : σ.1.2.1 r = t) (u : hU S σ.1) : uKp S σ σ' := sorry
theorem dJs_U9 (ok : scOK S N) (hr0 : RxU S rec) (t1 : (t : Int) < S 0 0 0) (t2 : S 2 t 0 = 1) {dp at' data ps p : Nat} : ∀ (q j : Nat) (σ σ' : Sx), j + q ≤ fCt S t → dJs S N g T n rec r t dp at' data ps p q j σ = .inr σ' → r < σ.1.1 → σ.1.2.1 r = t → hU S σ.1 → uKp S σ σ' := sorry
theorem dPs_U9 (ok : scOK S N) (hr0 : RxU S rec) (t1 : (t : Int) < S 0 0 0) (t2 : S 2 t 0 = 1) {dp at' data ps : Nat} : ∀ (q p : Nat) (σ σ' : Sx), dPs S N g T n rec r t dp at' data ps q p σ = .inr σ' → r < σ.1.1 → σ.1.2.1 r = t → hU S σ.1 → uKp S σ σ' := sorry
theorem dRec_U9 (ok : scOK S N) (la : laOK S) (bn : bnOK S) : ∀ c, RxU S (dRec S N g T n c) := sorry
theorem dDx_U9 (ok : scOK S N) (la : laOK S) (bn : bnOK S) (tv : (t : Int) < S 0 0 0 ∧ S 2 t 0 = 1) {σ : Sx} (e : dDx S N g T n t = .inr σ) : hU S σ.1 := sorry
end Du
end
section
section Tm
variable {S : SF} {N : NF} {μ : ab_M} {h g : He} {m s uM pM k : Nat} {ε : Nat → Nat} {W : Nat → List We} {c uc : Nat → List Nat} {own : Nat → Nat}
def plX (S : SF) (g : He) (x : Nat) (y : Nat × Nat × Nat) : Prop := y.1 < g.1 ∧ y.2.1 < fCt S (g.2.1 y.1) ∧ S 12 (g.2.1 y.1) y.2.1 = 12 ∧ ∃ t, (g.2.2.1 y.1 y.2.1)[y.2.2]? = some t ∧ t.2.2.2.2 = x
noncomputable def prX (S : SF) (g : He) (x : Nat) : Nat × Nat × Nat := @dite _ (∃ y, plX S g x y) (Classical.propDecidable _) (fun w => Classical.choose w) (fun _ => (0, 0, 0))
theorem prX_is {x : Nat} {y : Nat × Nat × Nat} (p : plX S g x y) : plX S g x (prX S g x) := sorry
theorem tH.prO (H : tH S μ m s g.1 (fun _ => true) g.2.1 g.2.2.1 g.2.2.2 ε W c uc own uM pM) (no : noOr S g.1 (fun _ => true) g.2.1 g.2.2.1 (fun _ => False)) : prO S g (prX S g) := sorry
theorem oA.cp {pr : Nat → Nat × Nat × Nat} (u : prO S g pr) (e : hEq S h g) (o : oA S h) : oA S g := sorry
theorem mT.shp (mt : mT S N μ k s g) (e : hEq S h g) (o : oA S h) : hShp S g := sorry
theorem tH.cut (H : tH S μ m s g.1 (fun _ => true) g.2.1 g.2.2.1 g.2.2.2 ε W c uc own uM pM) : ∀ r j, r < g.1 → fCt S (g.2.1 r) ≤ j → g.2.2.1 r j = [] := sorry
theorem mS.shp (m : mS S h) : hShp S h := sorry
end Tm
end
section
section Yp
abbrev Cu := Option Nat × Nat × Nat × Nat × Option Nat
noncomputable def yWl (T : Nat → Int) (n : Nat) (k : Tok) : Flt ⊕ (Int × Tok) := if isSg k 45 then (match xAdv T n k with
    | .inl f => .inl f
    | .inr k1 => if k1.1 = 3 then (match xAdv T n k1 with
      | .inl f => .inl f
      | .inr k2 => .inr (-k1.2.2.2.1, k2)) else .inl (2, (k1.2.1 : Int)))
  else if k.1 = 3 then (match xAdv T n k with
    | .inl f => .inl f
    | .inr k2 => .inr (k.2.2.2.1, k2)) else .inl (2, (k.2.1 : Int))
noncomputable def yKy (k v : Int) (l : List Int) (L : List It) : Option Nat := if kyB k (v, l) L = true then some (kTk k v l L).length else none
def yNt (i : Int) (L : List It) : Option Nat := if 0 ≤ i ∧ i < L.length then some i.toNat else none
noncomputable def yIx (S : SF) (N : NF) (T : Nat → Int) (n : Nat) (h : He) (ρ : Option Nat) (t j op : Nat) (k : Tok) : Flt ⊕ (Nat × Option Nat × Tok) :=
  if ¬ (k.1 = 4 ∨ (k.1 = 3 ∨ isSg k 45)) then .inl (2, (k.2.1 : Int))
  else if S 11 t j < 2 ∨ ¬ ((S 11 t j = 3 ∧ S 14 t j = 9) ↔ k.1 = 4) then .inl (5, (op : Int))
  else if S 11 t j = 3 then (match xPl S N T n (S 14 t j) 0 k with
    | .inl f => .inl f
    | .inr p => match xWnt T n 93 p.2.2 with
      | .inl f => .inl f
      | .inr k2 => .inr (2, ρ.bind (fun r => yKy (S 14 t j) p.1 p.2.1 (h.2.2.1 r j)), k2))
  else match yWl T n k with
    | .inl f => .inl f
    | .inr (i, k1) => match xWnt T n 93 k1 with
      | .inl f => .inl f
      | .inr k2 => .inr (1, ρ.bind (fun r => yNt i (h.2.2.1 r j)), k2)
def yRc (h : He) (ρ : Option Nat) (j la : Nat) (it : Option Nat) : Option Nat := ρ.bind fun r => if la = 0 then (h.2.2.1 r j)[0]?.map (·.2.2.2.2) else it.bind fun p => (h.2.2.1 r j)[p]?.map (·.2.2.2.2)
noncomputable def ySt (S : SF) (N : NF) (T : Nat → Int) (n : Nat) (h : He) (ρ : Option Nat) (t : Nat) (k : Tok) : Flt ⊕ (Nat × Nat × Option Nat × Tok) :=
  if k.1 ≠ 1 then .inl (2, (k.2.1 : Int)) else if nFd (N 1 t) (tkN T k) (fCt S t) 0 < 0 then .inl (5, (k.2.1 : Int)) else match xAdv T n k with
  | .inl f => .inl f
  | .inr k1 => if isSg k1 91 then (match xAdv T n k1 with
      | .inl f => .inl f
      | .inr k2 => match yIx S N T n h ρ t (nFd (N 1 t) (tkN T k) (fCt S t) 0).toNat k1.2.1 k2 with
        | .inl f => .inl f
        | .inr (la, it, k3) => .inr ((nFd (N 1 t) (tkN T k) (fCt S t) 0).toNat, la, it, k3))
    else .inr ((nFd (N 1 t) (tkN T k) (fCt S t) 0).toNat, 0, none, k1)
noncomputable def yPt (S : SF) (N : NF) (T : Nat → Int) (n : Nat) (h : He) : Nat → Option Nat → Nat → Tok → Flt ⊕ (Cu × Tok)
  | 0, _, _, _ => .inl ovr
  | c + 1, ρ, t, k => match ySt S N T n h ρ t k with
    | .inl f => .inl f
    | .inr (j, la, it, k3) => if isSg k3 91 then (match xAdv T n k3 with
        | .inl f => .inl f
        | .inr k4 => if k4.1 = 4 ∨ (k4.1 = 3 ∨ isSg k4 45) then .inl (5, (k3.2.1 : Int)) else .inl (2, (k4.2.1 : Int)))
      else if isSg k3 46 then (if S 12 t j ≠ 12 ∨ (2 ≤ S 11 t j ∧ la = 0) then .inl (5, (k3.2.1 : Int)) else match xAdv T n k3 with
        | .inl f => .inl f
        | .inr k4 => yPt S N T n h c (yRc h ρ j la it) (S 13 t j).toNat k4)
      else .inr ((ρ, t, j, la, it), k3)
def oI : Option Nat → Int
  | none => -1
  | some r => r
def cIm (S : SF) (μ : ab_M) (A : Nat) (h : He) (j : Nat) : Option Nat → Option Nat → Int
  | some r, some p => itm μ A (bsF S h.2.1 r + j) p
  | _, _ => -1
def frC1 (μ μ' : ab_M) : Prop := ∀ a i, a ≠ 2 → a ≠ 8 → a ≠ 9 → a ≠ 1309 → (a ≠ 1 ∨ i ≠ 18 ∧ i ≠ 20 ∧ (i < 48 ∨ 53 < i)) → μ' a i = μ a i
variable {μ μ' μ'' : ab_M} {d : Nat} {S : SF} {N : NF} {T : Nat → Int} {n : Nat} {k : Tok} {h : He} {A cr ci cb kS b r t j : Nat} {X : Rsv} {ni nu us : Nat} {ρ : Option Nat}
theorem frC1.refl : frC1 μ μ := sorry
theorem frC1.trans (f : frC1 μ μ') (g : frC1 μ' μ'') : frC1 μ μ'' := sorry
theorem frP.c1 (f : frP μ μ') : frC1 μ μ' := sorry
def RfC (run : ab_R) (μ : ab_M) (f : Flt) : Prop := RT run (fun μ' => μ' 2 6 = f.1 ∧ μ' 2 7 = f.2 ∧ frC1 μ μ')
theorem Rf.c1 {run : ab_R} {x y : Int} (g : Rf run μ x y) : RfC run μ (x, y) := sorry
theorem RfC.to {run : ab_R} {f : Flt} (g : RfC run μ' f) (q : frC1 μ μ') : RfC run μ f := sorry
theorem frC1.m (f : frC1 μ μ') (hm : isM A cr ci cb) {a : Nat} (ha : inM A a) (i : Nat) : μ' a i = μ a i := sorry
theorem cMS.c1 (c : cMS μ A kS b S N) (hm : isM A cr ci cb) (f : frC1 μ μ') : cMS μ' A kS b S N := sorry
theorem RfC.ref {x y : Int} : RfC (ab_cal (ab_run wc (d + 1) 497 0 [(2, 1), (0, x), (0, y)] [] μ) 2 (fun r1 μ1 => some ((4, r1), μ1)) (fun r1 μ1 => (cond (wc_ob (r1).toNat 2) (some ((4, r1), μ1)) none))) μ (x, y) := sorry
theorem c_whole (c : cT μ T n k) : (∀ f, yWl T n k = .inl f → Rf (ab_run wc (d + 6) 681 0 [(2, 8), (3, 0), (3, 0), (3, 0)] [] μ) μ f.1 f.2) ∧ ∀ v k', yWl T n k = .inr (v, k') → R1 (ab_run wc (d + 6) 681 0 [(2, 8), (3, 0), (3, 0), (3, 0)] [] μ) (fun x μ' => x = v ∧ cT μ' T n k' ∧ frP μ μ') := sorry
end Yp
end
section
section Yz
noncomputable def yKe (S : SF) (N : NF) (T : Nat → Int) (n t j : Nat) (k : Tok) : Int × List Int := if S 11 t j = 3 then (match xPl S N T n (S 14 t j) 0 k with
    | .inl _ => (0, [])
    | .inr p => (p.1, p.2.1)) else match yWl T n k with
    | .inl _ => (0, [])
    | .inr p => (p.1, [])
noncomputable def yK1 (S : SF) (N : NF) (T : Nat → Int) (n t j : Nat) (k : Tok) : Int × List Int := match xAdv T n k with
  | .inl _ => (0, [])
  | .inr k2 => yKe S N T n t j k2
noncomputable def yKs (S : SF) (N : NF) (T : Nat → Int) (n t : Nat) (k : Tok) : Int × List Int := match xAdv T n k with
  | .inl _ => (0, [])
  | .inr k1 => yK1 S N T n t (nFd (N 1 t) (tkN T k) (fCt S t) 0).toNat k1
end Yz
end
section
section Yi
variable {μ μ' μ'' : ab_M} {d : Nat} {S : SF} {N : NF} {T : Nat → Int} {n : Nat} {k : Tok} {h : He} {A cr ci cb kS b r t j : Nat} {X : Rsv} {ni nu us : Nat} {ρ : Option Nat}
theorem kTk_at {k v : Int} {l : List Int} {L : List It} (hs : srt k L) (hl : ∀ t ∈ L, lng t.1) (hv : lng v) {q : Nat} {t : It} (e : L[q]? = some t) (z : kyC k t v l = 0) (f : ∀ q' t', q' < q → L[q']? = some t' → kyC k t' v l ≠ 0) : yKy k v l L = some q := sorry
theorem kTk_no {k v : Int} {l : List Int} {L : List It} (hs : srt k L) (hl : ∀ t ∈ L, lng t.1) (hv : lng v) (f : ∀ t ∈ L, kyC k t v l ≠ 0) : yKy k v l L = none := sorry
theorem c_ti377 {x2 : Int} (c : cT μ T n k) : (∀ f, xWnt T n 93 k = .inl f → RfC (ab_run wc (d + 8) 548 377 [(2, 1), (2, A), (2, x2), (0, 0), (3, 0), (3, 0), (3, 0), (3, 0), (3, 0), (3, 0), (3, 0)] [] μ) μ f) ∧ ∀ k', xWnt T n 93 k = .inr k' → R3 (ab_run wc (d + 8) 548 377 [(2, 1), (2, A), (2, x2), (0, 0), (3, 0), (3, 0), (3, 0), (3, 0), (3, 0), (3, 0), (3, 0)] [] μ) (fun μ' => cT μ' T n k' ∧ frP μ μ') := sorry
theorem c_ti289 {s i : Nat} {x2 x3 : Int} (hm : isM A cr ci cb) (cm : CM X S μ A cr ci cb h.1 h.2.1 h.2.2.1 h.2.2.2 ni nu us) (hr : r < h.1) (hj : j < fCt S (h.2.1 r)) (my : 2 ≤ S 11 (h.2.1 r) j) (hs : s = bsF S h.2.1 r + j) (hi : i < (h.2.2.1 r j).length) (i6 : i < 1000000) : ∀ (w p : Nat) (μ' : ab_M), p + w = i → (∀ a y, (a ≠ 1 ∨ y ≠ 50) → μ' a y = μ a y) → μ' 1 50 = itm μ A s p → ∃ μ'', (ab_run wc (d + 1) 548 289 [(2, 1), (2, A), (2, x2), (0, x3), (3, 0), (3, 0), (0, s), (1, i), (3, 0), (1, p), (3, 0)] [] μ') = (ab_run wc (d + 1) 548 326 [(2, 1), (2, A), (2, x2), (0, x3), (3, 0), (3, 0), (0, s), (1, i), (3, 0), (3, 0), (3, 0)] [] μ'') ∧ (∀ a y, (a ≠ 1 ∨ y ≠ 50) → μ'' a y = μ a y) ∧ μ'' 1 50 = itm μ A s i := sorry
noncomputable def yI0 (S : SF) (N : NF) (T : Nat → Int) (n : Nat) (h : He) (ρ : Option Nat) (t j : Nat) (k : Tok) : Flt ⊕ (Nat × Option Nat × Tok) := match xAdv T n k with
  | .inl f => .inl f
  | .inr k2 => yIx S N T n h ρ t j k.2.1 k2
def cIx (S : SF) (μ μ' : ab_M) (A : Nat) (h : He) (T : Nat → Int) (n : Nat) (ρ : Option Nat) (j la : Nat) (it : Option Nat) (k : Tok) : Prop := cT μ' T n k ∧ (μ' 1 48 = oI ρ ∧ μ' 1 49 = j ∧ μ' 1 51 = 1 ∧ μ' 1 50 = cIm S μ' A h j ρ it) ∧ la ≠ 0 ∧ frC1 μ μ'
theorem cIm_to {it : Option Nat} (hm : isM A cr ci cb) (f : ∀ a, inM A a → ∀ i, μ' a i = μ a i) : cIm S μ' A h j ρ it = cIm S μ A h j ρ it := sorry
end Yi
end
section
section Yj
variable {μ μ' μ'' μ0 : ab_M} {d : Nat} {S : SF} {N : NF} {T : Nat → Int} {n : Nat} {k : Tok} {h : He} {A cr ci cb kS b r t j : Nat} {X : Rsv} {ni nu us : Nat} {ρ : Option Nat}
noncomputable def yMk (S : SF) (N : NF) (T : Nat → Int) (n : Nat) (h : He) (ρ : Option Nat) (t j : Nat) (k : Tok) : Flt ⊕ (Nat × Option Nat × Tok) := match xPl S N T n (S 14 t j) 0 k with
    | .inl f => .inl f
    | .inr p => match xWnt T n 93 p.2.2 with
      | .inl f => .inl f
      | .inr k2 => .inr (2, ρ.bind (fun r => yKy (S 14 t j) p.1 p.2.1 (h.2.2.1 r j)), k2)
noncomputable def yLk (T : Nat → Int) (n : Nat) (h : He) (ρ : Option Nat) (j : Nat) (k : Tok) : Flt ⊕ (Nat × Option Nat × Tok) := match yWl T n k with
    | .inl f => .inl f
    | .inr (i, k1) => match xWnt T n 93 k1 with
      | .inl f => .inl f
      | .inr k2 => .inr (1, ρ.bind (fun r => yNt i (h.2.2.1 r j)), k2)
def sl0 (S : SF) (h : He) (j : Nat) : Option Nat → Int
  | none => -1
  | some r => ((bsF S h.2.1 r + j : Nat) : Int)
theorem c_tiEnd {x2 x : Int} {la : Nat} {it : Option Nat} (hm : isM A cr ci cb) (c : cT μ T n k) (e1 : μ 1 48 = oI ρ) (e2 : μ 1 49 = j) (e3 : μ 1 51 = 1) (ex : x = cIm S μ A h j ρ it) (hl : la ≠ 0) (q3 : frC1 μ0 μ) : (∀ f, xWnt T n 93 k = .inl f → RfC (ab_run wc (d + 10) 548 377 [(2, 1), (2, A), (2, x2), (0, 0), (3, 0), (3, 0), (3, 0), (3, 0), (3, 0), (3, 0), (3, 0)] [] (ab_up μ 1 50 x)) μ0 f) ∧ ∀ k', xWnt T n 93 k = .inr k' → R3 (ab_run wc (d + 10) 548 377 [(2, 1), (2, A), (2, x2), (0, 0), (3, 0), (3, 0), (3, 0), (3, 0), (3, 0), (3, 0), (3, 0)] [] (ab_up μ 1 50 x)) (fun μ' => cIx S μ0 μ' A h T n ρ j la it k') := sorry
theorem c_ti132m (hm : isM A cr ci cb) (ms : cMS μ A kS b S N) (cm : CM X S μ A cr ci cb h.1 h.2.1 h.2.2.1 h.2.2.2 ni nu us) (hg : hG S h) (c : cT μ T n k) (tO : (t : Int) < S 0 0 0 ∧ S 2 t 0 = 1) (hj : j < fCt S t) (m3 : S 11 t j = 3) (hρ : ∀ r, ρ = some r → r < h.1 ∧ h.2.1 r = t) (e1 : μ 1 48 = oI ρ) (e2 : μ 1 49 = j) (e3 : μ 1 51 = 1) (q3 : frC1 μ0 μ) :
    (∀ f, yMk S N T n h ρ t j k = .inl f → RfC (ab_run wc (d + 10) 548 132 [(2, 1), (2, A), (2, (fdA b t j)), (0, 0), (3, 0), (3, 0), (3, 0), (3, 0), (3, 0), (3, 0), (3, 0)] [(0, (sl0 S h j ρ))] μ) μ0 f) ∧ ∀ la it k', yMk S N T n h ρ t j k = .inr (la, it, k') → R3 (ab_run wc (d + 10) 548 132 [(2, 1), (2, A), (2, (fdA b t j)), (0, 0), (3, 0), (3, 0), (3, 0), (3, 0), (3, 0), (3, 0), (3, 0)] [(0, (sl0 S h j ρ))] μ) (fun μ' => cIx S μ0 μ' A h T n ρ j la it k') := sorry
end Yj
end
section
section Yk
variable {μ μ' μ'' μ0 : ab_M} {d : Nat} {S : SF} {N : NF} {T : Nat → Int} {n : Nat} {k : Tok} {h : He} {A cr ci cb kS b r t j : Nat} {X : Rsv} {ni nu us : Nat} {ρ : Option Nat}
theorem c_ti132l (hm : isM A cr ci cb) (ms : cMS μ A kS b S N) (cm : CM X S μ A cr ci cb h.1 h.2.1 h.2.2.1 h.2.2.2 ni nu us) (c : cT μ T n k) (tO : (t : Int) < S 0 0 0 ∧ S 2 t 0 = 1) (hj : j < fCt S t) (m2 : S 11 t j = 2) (hρ : ∀ r, ρ = some r → r < h.1 ∧ h.2.1 r = t) (e1 : μ 1 48 = oI ρ) (e2 : μ 1 49 = j) (e3 : μ 1 51 = 1) (q3 : frC1 μ0 μ) :
    (∀ f, yLk T n h ρ j k = .inl f → RfC (ab_run wc (d + 10) 548 132 [(2, 1), (2, A), (2, (fdA b t j)), (0, 0), (3, 0), (3, 0), (3, 0), (3, 0), (3, 0), (3, 0), (3, 0)] [(0, (sl0 S h j ρ))] μ) μ0 f) ∧ ∀ la it k', yLk T n h ρ j k = .inr (la, it, k') → R3 (ab_run wc (d + 10) 548 132 [(2, 1), (2, A), (2, (fdA b t j)), (0, 0), (3, 0), (3, 0), (3, 0), (3, 0), (3, 0), (3, 0), (3, 0)] [(0, (sl0 S h j ρ))] μ) (fun μ' => cIx S μ0 μ' A h T n ρ j la it k') := sorry
end Yk
end
section
section Yl
variable {μ μ' μ'' μ0 : ab_M} {d : Nat} {S : SF} {N : NF} {T : Nat → Int} {n : Nat} {k : Tok} {h : He} {A cr ci cb kS b r t j : Nat} {X : Rsv} {ni nu us : Nat} {ρ : Option Nat}
theorem c_ti58 {op : Nat} (hm : isM A cr ci cb) (ms : cMS μ A kS b S N) (cm : CM X S μ A cr ci cb h.1 h.2.1 h.2.2.1 h.2.2.2 ni nu us) (hg : hG S h) (c : cT μ T n k) (tO : (t : Int) < S 0 0 0 ∧ S 2 t 0 = 1) (hj : j < fCt S t) (hρ : ∀ r, ρ = some r → r < h.1 ∧ h.2.1 r = t) (e1 : μ 1 48 = oI ρ) (e2 : μ 1 49 = j) (q3 : frC1 μ0 μ) (hk : k.1 = 4 ∨ (k.1 = 3 ∨ isSg k 45)) :
    (∀ f, yIx S N T n h ρ t j op k = .inl f → RfC (ab_run wc (d + 10) 548 58 [(2, 1), (2, A), (2, (fdA b t j)), (0, 0), (0, op), (0, (if k.1 = 4 then 1 else 0)), (3, 0), (3, 0), (3, 0), (3, 0), (3, 0)] [] μ) μ0 f) ∧ ∀ la it k', yIx S N T n h ρ t j op k = .inr (la, it, k') → R3 (ab_run wc (d + 10) 548 58 [(2, 1), (2, A), (2, (fdA b t j)), (0, 0), (0, op), (0, (if k.1 = 4 then 1 else 0)), (3, 0), (3, 0), (3, 0), (3, 0), (3, 0)] [] μ) (fun μ' => cIx S μ0 μ' A h T n ρ j la it k') := sorry
theorem c_takeIndex (hm : isM A cr ci cb) (ms : cMS μ A kS b S N) (cm : CM X S μ A cr ci cb h.1 h.2.1 h.2.2.1 h.2.2.2 ni nu us) (hg : hG S h) (c : cT μ T n k) (tO : (t : Int) < S 0 0 0 ∧ S 2 t 0 = 1) (hj : j < fCt S t) (hρ : ∀ r, ρ = some r → r < h.1 ∧ h.2.1 r = t) (e1 : μ 1 48 = oI ρ) (e2 : μ 1 49 = j) :
    (∀ f, yI0 S N T n h ρ t j k = .inl f → RfC (ab_run wc (d + 10) 548 0 [(2, 1), (2, A), (2, (fdA b t j)), (0, 0), (3, 0), (3, 0), (3, 0), (3, 0), (3, 0), (3, 0), (3, 0)] [] μ) μ f) ∧ ∀ la it k', yI0 S N T n h ρ t j k = .inr (la, it, k') → R3 (ab_run wc (d + 10) 548 0 [(2, 1), (2, A), (2, (fdA b t j)), (0, 0), (3, 0), (3, 0), (3, 0), (3, 0), (3, 0), (3, 0), (3, 0)] [] μ) (fun μ' => cIx S μ μ' A h T n ρ j la it k') := sorry
end Yl
end
section
section Ym
variable {μ μ' μ'' μ0 : ab_M} {d : Nat} {S : SF} {N : NF} {T : Nat → Int} {n : Nat} {k : Tok} {h : He} {A cr ci cb kS b r t j la : Nat} {X : Rsv} {ni nu us : Nat} {ρ it : Option Nat}
def itO (S : SF) (h : He) (ρ : Option Nat) (t j la : Nat) (it : Option Nat) : Prop := (la = 0 → it = none) ∧ (la ≠ 0 → 2 ≤ S 11 t j) ∧ ∀ p, it = some p → ∃ r, ρ = some r ∧ p < (h.2.2.1 r j).length
theorem yKy_lt {k v : Int} {l : List Int} {L : List It} {p : Nat} (e : yKy k v l L = some p) : p < L.length := sorry
theorem yNt_lt {i : Int} {L : List It} {p : Nat} (e : yNt i L = some p) : p < L.length := sorry
theorem yIx_ok {op : Nat} {k' : Tok} (e : yIx S N T n h ρ t j op k = .inr (la, it, k')) : itO S h ρ t j la it := sorry
theorem yI0_ok {k' : Tok} (e : yI0 S N T n h ρ t j k = .inr (la, it, k')) : itO S h ρ t j la it := sorry
theorem yI0_tk {k' : Tok} (hT : ∀ k, k < n → 0 ≤ T k ∧ T k < 256) (tk : tkO T n k) (e : yI0 S N T n h ρ t j k = .inr (la, it, k')) : tkO T n k' ∧ k.2.2.1 ≤ k'.2.1 := sorry
theorem yRc_ok (u : hU S h) (hρ : ∀ r, ρ = some r → r < h.1 ∧ h.2.1 r = t) (k12 : S 12 t j = 12) {r' : Nat} (e : yRc h ρ j la it = some r') : r' < h.1 ∧ h.2.1 r' = (S 13 t j).toNat := sorry
theorem c_recAt {x2 : Int} (hm : isM A cr ci cb) (ms : cMS μ A kS b S N) (cm : CM X S μ A cr ci cb h.1 h.2.1 h.2.2.1 h.2.2.2 ni nu us) (hi : hI S h) (h1000 : h.1 < hole) (u : hU S h) (hj : j < fCt S t) (k12 : S 12 t j = 12) (hρ : ∀ r, ρ = some r → r < h.1 ∧ h.2.1 r = t) (io : itO S h ρ t j la it) (ck : la = 0 → S 11 t j < 2) (e1 : μ 1 48 = oI ρ) (e2 : μ 1 49 = j) (e3 : μ 1 51 = if la = 0 then 0 else 1) (e4 : μ 1 50 = cIm S μ A h j ρ it) :
    (ab_run wc (d + 1) 495 0 [(2, 1), (2, A), (2, x2), (0, 0), (3, 0)] [] μ) = some ((0, oI (yRc h ρ j la it)), μ) := sorry
end Ym
end
section
section Yn
variable {μ μ' μ'' μ0 : ab_M} {d : Nat} {S : SF} {N : NF} {T : Nat → Int} {n : Nat} {k : Tok} {h : He} {A cr ci cb kS b r t j la : Nat} {X : Rsv} {ni nu us : Nat} {ρ it : Option Nat}
def cCu (S : SF) (μ : ab_M) (A : Nat) (h : He) (c : Cu) : Prop := μ 1 48 = oI c.1 ∧ μ 1 49 = c.2.2.1 ∧ μ 1 51 = (if c.2.2.2.1 = 0 then 0 else 1) ∧ μ 1 50 = cIm S μ A h c.2.2.1 c.1 c.2.2.2.2
noncomputable def yBe (S : SF) (N : NF) (T : Nat → Int) (n : Nat) (h : He) (c : Nat) (ρ : Option Nat) (t j la : Nat) (it : Option Nat) (k3 : Tok) : Flt ⊕ (Cu × Tok) := if isSg k3 91 then (match xAdv T n k3 with
        | .inl f => .inl f
        | .inr k4 => if k4.1 = 4 ∨ (k4.1 = 3 ∨ isSg k4 45) then .inl (5, (k3.2.1 : Int)) else .inl (2, (k4.2.1 : Int)))
      else if isSg k3 46 then (if S 12 t j ≠ 12 ∨ (2 ≤ S 11 t j ∧ la = 0) then .inl (5, (k3.2.1 : Int)) else match xAdv T n k3 with
        | .inl f => .inl f
        | .inr k4 => yPt S N T n h c (yRc h ρ j la it) (S 13 t j).toNat k4)
      else .inr ((ρ, t, j, la, it), k3)
theorem yPt_s {c : Nat} : yPt S N T n h (c + 1) ρ t k = match ySt S N T n h ρ t k with
    | .inl f => .inl f
    | .inr (j, la, it, k3) => yBe S N T n h c ρ t j la it k3 := sorry
def cYr (S : SF) (μ0 : ab_M) (A : Nat) (h : He) (T : Nat → Int) (n : Nat) (run : ab_R) : Flt ⊕ (Cu × Tok) → Prop
  | .inl f => RfC run μ0 f
  | .inr (c, k) => R3 run (fun μ' => cT μ' T n k ∧ cCu S μ' A h c ∧ frC1 μ0 μ')
theorem isSg_ne {x y : Int} (a : isSg k x) (ne : x ≠ y) : ¬ isSg k y := sorry
theorem c_wk163 {c : Nat} (hm : isM A cr ci cb) (ms : cMS μ A kS b S N) (cm : CM X S μ A cr ci cb h.1 h.2.1 h.2.2.1 h.2.2.2 ni nu us) (hi : hI S h) (h1000 : h.1 < hole) (u : hU S h) (ct : cT μ T n k) (tO : (t : Int) < S 0 0 0 ∧ S 2 t 0 = 1) (hj : j < fCt S t) (hρ : ∀ r, ρ = some r → r < h.1 ∧ h.2.1 r = t) (io : itO S h ρ t j la it) (e1 : μ 1 48 = oI ρ) (e2 : μ 1 49 = j) (e3 : μ 1 51 = if la = 0 then 0 else 1) (e4 : μ 1 50 = cIm S μ A h j ρ it) (q3 : frC1 μ0 μ) (hn : n ≤ k.2.1 + c)
    (ih : ∀ (μ : ab_M) (k : Tok) (ρ : Option Nat) (t : Nat), n < k.2.1 + c → cMS μ A kS b S N → CM X S μ A cr ci cb h.1 h.2.1 h.2.2.1 h.2.2.2 ni nu us → cT μ T n k → ((t : Int) < S 0 0 0 ∧ S 2 t 0 = 1) → (∀ r, ρ = some r → r < h.1 ∧ h.2.1 r = t) → frC1 μ0 μ → cYr S μ0 A h T n (ab_run wc (d + 12) 565 29 [(2, 1), (2, A), (0, 0), (0, t), (0, (oI ρ)), (0, 1), (3, 0), (3, 0), (3, 0)] [] μ) (yPt S N T n h c ρ t k)) :
    cYr S μ0 A h T n (ab_run wc (d + 12) 565 163 [(2, 1), (2, A), (0, 0), (0, t), (0, (oI ρ)), (3, 0), (3, 0), (2, (fdA b t j)), (3, 0)] [] μ) (yBe S N T n h c ρ t j la it k) := sorry
end Yn
end
