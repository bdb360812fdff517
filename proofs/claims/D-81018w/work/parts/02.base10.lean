set_option maxRecDepth 16384
section
section Vf
variable {μ μ' μ'' μ0 : ab_M} {d : Nat} {S : SF} {N : NF} {T : Nat → Int} {n : Nat} {k kq : Tok} {s m : Nat} {h h' : He} {al : Nat → Bool} {ε : Nat → Nat} {uM pM r j t dp rc : Nat} {F : Fr} {D : Nat → Nat}
theorem TX.rm (x : TX S N T n m s dp μ h [] al ε uM pM) (hr : r < h.1) (ha : al r = true) (hj : j < fCt S (h.2.1 r)) : R3 (ab_run wt (d + 4) 272 0 [(2, 7756), (0, (ε r)), (0, (fX s (h.2.1 r) j)), (3, 0)] [] μ) (fun μ' => ∃ cur, TX S N T n m s dp μ' (h.1, h.2.1, upV h.2.2.1 r j [], h.2.2.2) [] cur ε uM pM ∧ cur r = true ∧ frK m μ μ') := sorry
theorem hRec_em (lt2 : S 11 (h.2.1 r) j < 2) : hRec S (h.1, h.2.1, upV h.2.2.1 r j [], h.2.2.2) r j (0, []) = hRec S h r j (0, []) := sorry
theorem tw_v189 (x : TX S N T n m s dp μ h [] al ε uM pM) (ht : tT μ T n k) (hr : r < h.1) (ha : al r = true) (hj : j < fCt S (h.2.1 r)) (m23 : S 11 (h.2.1 r) j = 2 ∨ S 11 (h.2.1 r) j = 3) (hb : dp ≤ 12) (u2 : uM ≤ 445 + k.2.1) (p2 : pM ≤ 2050 + k.2.1) :
    tVr m S N T n s dp μ (ab_run wt (d + 12) 225 189 [(2, 7756), (0, (fX s (h.2.1 r) j)), (0, (ε r)), (3, 0), (3, 0), (3, 0)] [(0, ((if S 11 (h.2.1 r) j = 2 then 91 else 60))), (2, 7756)] μ) (xEn S N T n dp (xOpn S N T n dp (hEm S h r j) [] r j k)) := sorry
theorem tw_v249 (x : TX S N T n m s dp μ h [] al ε uM pM) (ms : μ 7863 12 = s) (ht : tT μ T n k) (hr : r < h.1) (ha : al r = true) (hj : j < fCt S (h.2.1 r)) (lt2 : S 11 (h.2.1 r) j < 2) (hb : dp ≤ 12) (u2 : uM ≤ 445 + k.2.1) (p2 : pM ≤ 2050 + k.2.1) (pl : μ 7756 237 = 0) :
    tVr m S N T n s dp μ (ab_run wt (d + 12) 225 249 [(2, 7756), (0, (fX s (h.2.1 r) j)), (0, (ε r)), (0, (k.2.1)), (3, 0), (3, 0)] [] μ) (xEn S N T n dp (xOpn S N T n dp (hEm S h r j) [] r j k)) := sorry
end Vf
end
section
section Vg
variable {μ μ' μ'' μ0 : ab_M} {d : Nat} {S : SF} {N : NF} {T : Nat → Int} {n : Nat} {k kq : Tok} {s m : Nat} {h h' : He} {al : Nat → Bool} {ε : Nat → Nat} {uM pM r j t dp rc la : Nat} {F : Nat → Prop} {D : Nat → Nat} {key : Int × List Int}
theorem tH.orp {W : Nat → List We} {c uc : Nat → List Nat} {own : Nat → Nat} (H : tH S μ m s h.1 al h.2.1 h.2.2.1 h.2.2.2 ε W c uc own uM pM) : tH S μ m s (hOrp h t).1 (upL al h.1 false) (hOrp h t).2.1 (hOrp h t).2.2.1 (hOrp h t).2.2.2 ε W c uc own uM pM := sorry
theorem to_orp : toV S (h.1 + 1) (upL al h.1 false) (upT h.2.1 h.1 t) (nwV h.2.2.1 h.1) (nwU h.2.2.2 h.1) = toV S h.1 al h.2.1 h.2.2.1 h.2.2.2 ∧ toB S (h.1 + 1) (upL al h.1 false) (upT h.2.1 h.1 t) (nwV h.2.2.1 h.1) (nwU h.2.2.2 h.1) = toB S h.1 al h.2.1 h.2.2.1 h.2.2.2 := sorry
theorem TD.orp (x : TD (fun _ => none) F S N m s μ h al ε uM pM) : TD (fun _ => none) F S N m s μ (hOrp h t) (upL al h.1 false) ε uM pM := sorry
theorem tKf.orp (hr : r < h.1) (e : tKf S μ s uM pM al ε h (some r) (h.2.1 r) j la key) : tKf S μ s uM pM (upL al h.1 false) ε (hOrp h t) (some r) ((hOrp h t).2.1 r) j la key := sorry
theorem tKf.rd {pM' : Nat} (e : tKf S μ s uM pM al ε h (some r) (h.2.1 r) j la key) (f : frS 12 pM μ μ') (hp : μ' 7868 12 = pM') (h1 : pM ≤ pM') (h2 : pM' ≤ 9000) : tKf S μ' s uM pM' al ε h (some r) (h.2.1 r) j la key := sorry
theorem TX.td (x : TX S N T n m s dp μ h [] al ε uM pM) : TD (fun _ => none) (fun _ => False) S N m s μ h al ε uM pM := sorry
theorem TD.sch {X : RsvT} {G : Nat → Prop} {m : Nat} (x : TD X G S N m s μ h al ε uM pM) : μ 7863 m = s := sorry
theorem TX.of {al' : Nat → Bool} {ε' : Nat → Nat} {uM' pM' : Nat} (x : TX S N T n m s dp μ h [] al ε uM pM) (y : TD (fun _ => none) (fun _ => False) S N m s μ' h' al' ε' uM' pM') (f : frH m μ μ') (hi : hI S h') : TX S N T n m s dp μ' h' [] al' ε' uM' pM' := sorry
theorem tw_vnew (x : TX S N T n 12 s dp μ h [] al ε uM pM) (ht : tT μ T n k) (v : yIv S h D r dp) (d0 : D 0 = 1) (ha : al r = true) (hj : j < fCt S (h.2.1 r)) (hb : dp ≤ 12) (u2 : uM ≤ 445 + k.2.1) (p2 : pM ≤ 2050 + k.2.1) (l0 : la ≠ 0) (fx : yFx S h r j la none key) (lo : ¬ yLo h r j la none key) (pl : μ 7756 237 = la) (pe : μ 7756 235 = -2) (kf : tKf S μ s uM pM al ε h (some r) (h.2.1 r) j la key) :
    tVr 12 S N T n s dp μ (ab_run wt (d + 12) 225 249 [(2, 7756), (0, (fX s (h.2.1 r) j)), (0, (ε r)), (0, (k.2.1)), (3, 0), (3, 0)] [] μ) (xEn S N T n dp (yVc S N T n h r j la none key dp k)) := sorry
end Vg
end
section
section Vh
variable {μ μ' μ'' μ0 : ab_M} {d : Nat} {S : SF} {N : NF} {T : Nat → Int} {n : Nat} {k kq : Tok} {s m : Nat} {h h' : He} {al : Nat → Bool} {ε : Nat → Nat} {uM pM r j t dp rc la p e : Nat} {D : Nat → Nat} {key : Int × List Int} {q : It} {W : Nat → List We} {c uc : Nat → List Nat} {own : Nat → Nat}
theorem toB_0 {nr : Nat} {ty : Nat → Nat} {V : Nat → Nat → List It} {U : Nat → List Un} : 0 ≤ toB S nr al ty V U := sorry
theorem tLc.spl {x : Int} (H : tH S μ m s h.1 al h.2.1 h.2.2.1 h.2.2.2 ε W c uc own uM pM) (hr : r < h.1) (ha : al r = true) (hp : (h.2.2.1 r j)[p]? = some q) (en : μ 7869 x.toNat = fX s (h.2.1 r) j) (lc : tLc μ (ε r) (fX s (h.2.1 r) j) x p) : ∃ (e : Nat) (c1 c2 : List Nat) (W1 W2 : List We), x = ((e : Nat) : Int) ∧ c r = c1 ++ e :: c2 ∧ W r = W1 ++ (j, q) :: W2 ∧ c1.length = W1.length ∧ (wV W1 j).length = p ∧ h.2.2.1 r j = wV W1 j ++ q :: wV W2 j ∧ tEn S μ m s pM ε (h.2.1 r) e (j, q) ∧ (4600 * m < e ∧ e < 4600 * m + uM) := sorry
theorem tLc.rd {a f : Nat} {x : Int} (lc : tLc μ a f x p) (g : ∀ b, 7869 ≤ b → b ≤ 7872 → ∀ i, μ' b i = μ b i) : tLc μ' a f x p := sorry
theorem wgV_len {mode : Int} {L L' : List It} (e : L.length = L'.length) : wgV mode L = wgV mode L' := sorry
theorem tw_vfill {vv : Int} {l : List Int} {fi : Nat} (y : TX S N T n 12 s dp μ h [] al ε uM pM) (v : yIv S h D r dp) (ha : al r = true) (hj : j < fCt S (h.2.1 r)) (h12 : S 12 (h.2.1 r) j ≠ 12) (hp : (h.2.2.1 r j)[p]? = some q) (pl : μ 7756 237 ≠ 0) (en : μ 7869 (μ 7756 235).toNat = fX s (h.2.1 r) j) (lc : tLc μ (ε r) (fX s (h.2.1 r) j) (μ 7756 235) p) (s1 : μ 7756 163 = vv) (s2 : μ 7756 164 = fi) (s3 : μ 7756 165 = l.length) (hl : fi + l.length ≤ pM) (hb : tBy μ 7879 (9000 * 12 + fi) l) :
    R3 (ab_run wt (d + 11) 237 0 [(2, 7756), (0, (ε r)), (0, (fX s (h.2.1 r) j)), (3, 0)] [] μ) (fun μ'' => TX S N T n 12 s dp μ'' (hPs h r j p vv l) [] al ε uM pM ∧ frH 12 μ μ'') := sorry
end Vh
end
section
section Vi
variable {μ μ' μ'' μ0 : ab_M} {d : Nat} {S : SF} {N : NF} {T : Nat → Int} {n : Nat} {k kq : Tok} {s m : Nat} {h h' : He} {al cur : Nat → Bool} {ε : Nat → Nat} {uM pM r j t dp rc la p e t' : Nat} {D : Nat → Nat} {key : Int × List Int} {q q' : It} {W : Nat → List We} {c uc : Nat → List Nat} {own : Nat → Nat} {c1 c2 : List Nat} {W1 W2 : List We}
theorem tH.repW (H : tH S μ m s h.1 al h.2.1 h.2.2.1 h.2.2.2 ε W c uc own uM pM) (hr : r < h.1) (ha : al r = true) (hc : c r = c1 ++ e :: c2) (hw : W r = W1 ++ (j, q) :: W2) (hl : c1.length = W1.length) (h0 : q'.2.2.2.2 = q.2.2.2.2)
    (f : ∀ a, 7863 ≤ a → a ≤ 7879 → ∀ i, (a < 7873 ∨ 7878 < a ∨ i ≠ e) → μ' a i = μ a i)
    (g : μ' 7873 e = q'.2.2.1 ∧ tMx μ' m pM 7874 7875 e q'.2.2.2.1 ∧ μ' 7876 e = q'.1 ∧ tMx μ' m pM 7877 7878 e q'.2.1) : ∃ own', tH S μ' m s h.1 al h.2.1 (upV h.2.2.1 r j (wV W1 j ++ q' :: wV W2 j)) h.2.2.2 ε (upL W r (W1 ++ (j, q') :: W2)) (upL c r (c1 ++ e :: c2)) uc own' uM pM := sorry
theorem tw_uncountK {c0 b0 : Nat} (H : tH S μ 12 s h.1 al h.2.1 h.2.2.1 h.2.2.2 ε W c uc own uM pM) (ts : TS μ s S N) (hb0 : b0 ≤ 9000) (tv : μ 7865 12 = toV S h.1 al h.2.1 h.2.2.1 h.2.2.2 + gh S 12) (tb : μ 7866 12 = toB S h.1 al h.2.1 h.2.2.1 h.2.2.2 + b0) (he : 55200 ≤ e ∧ e < 55200 + uM) (t1 : (t : Int) < S 0 0 0) (t2 : S 2 t 0 = 1) (hj : j < fCt S t) (z : S 12 t j = 12) (ef : μ 7869 e = fX s t j) (l1 : μ 7875 e = 0) (l2 : μ 7878 e = 0) (hc : c0 < h.1 ∧ al c0 = true ∧ ε c0 = e) :
    R3 (ab_run wt (d + 2) 313 0 [(2, 7756), (0, e), (3, 0), (3, 0), (3, 0), (3, 0), (3, 0)] [] μ) (fun μ' => ∃ cur, KL h.1 al cur (fun r => chR S (h.2.1 r) (W r)) c0 [] ∧ ucB S μ' 12 h.1 cur h.2.1 h.2.2.1 h.2.2.2 (gh S 12) (b0 : Int) ∧ ucF 12 μ μ') := sorry
end Vi
end
section
section Vj
variable {μ μ' μ'' μ0 : ab_M} {d : Nat} {S : SF} {N : NF} {T : Nat → Int} {n : Nat} {k kq : Tok} {s m : Nat} {h h' : He} {al cur : Nat → Bool} {ε : Nat → Nat} {uM pM r j t dp rc la p e t' : Nat} {D : Nat → Nat} {key : Int × List Int} {q q' : It} {W : Nat → List We} {c uc : Nat → List Nat} {own : Nat → Nat} {c1 c2 : List Nat} {W1 W2 : List We}
theorem chR_app {tt : Nat} (A B : List We) : chR S tt (A ++ B) = chR S tt A ++ chR S tt B := sorry
theorem KL.cl (H : tH S μ m s h.1 al h.2.1 h.2.2.1 h.2.2.2 ε W c uc own uM pM) (hr : r < h.1) (ha : al r = true) (hw : W r = W1 ++ (j, q) :: W2) (z : fSo (S 12 (h.2.1 r) j) = 2) (kl : KL h.1 al cur (fun r => chR S (h.2.1 r) (W r)) q.2.2.2.2 []) {x : Nat} (q1 : x < h.1) (q2 : cur x = true) {y : We} (hy : y ∈ W x) (hx : x = r → y ∈ W1 ++ W2) (y2 : fSo (S 12 (h.2.1 x) y.1) = 2) : cur y.2.2.2.2.2 = true := sorry
theorem tH.newAt (H : tH S μ 12 s h.1 al h.2.1 h.2.2.1 h.2.2.2 ε W c uc own uM pM) (hr : r < h.1) (ha : al r = true) (hj : j < fCt S (h.2.1 r)) (hc : c r = c1 ++ e :: c2) (hw : W r = W1 ++ (j, q) :: W2) (hl : c1.length = W1.length) (k12 : S 12 (h.2.1 r) j = 12) (k13 : S 13 (h.2.1 r) j = t') (tO : (t' : Int) < S 0 0 0 ∧ S 2 t' 0 = 1) (kl : KL h.1 al cur (fun r => chR S (h.2.1 r) (W r)) q.2.2.2.2 []) (q0 : q'.2.2.2.2 = h.1) (f : ∀ a i, 7863 ≤ a → a ≤ 7879 → a ≠ 7865 → a ≠ 7866 → (i ≠ e ∨ a ≠ 7871 ∧ a ≠ 7872 ∧ a ≠ 7878) → μ' a i = μ a i) (z1 : μ' 7871 e = -2) (z2 : μ' 7872 e = -2) (en' : tEn S μ' 12 s pM (upL ε h.1 e) (h.2.1 r) e (j, q')) :
    tH S μ' 12 s (h.1 + 1) (upL cur h.1 true) (upT h.2.1 h.1 t') (upV (nwV h.2.2.1 h.1) r j (wV W1 j ++ q' :: wV W2 j)) (nwU h.2.2.2 h.1) (upL ε h.1 e) (upL (upL W h.1 []) r (W1 ++ (j, q') :: W2)) (upL c h.1 []) (upL uc h.1 []) own uM pM := sorry
end Vj
end
section
section Vk
variable {μ μ' μ'' μ0 : ab_M} {d : Nat} {S : SF} {N : NF} {T : Nat → Int} {n : Nat} {k kq : Tok} {s m : Nat} {h h' : He} {al cur : Nat → Bool} {ε : Nat → Nat} {uM pM r j t dp rc la p t' : Nat} {D : Nat → Nat} {key : Int × List Int} {q : It}
theorem tw_vrec (x : TX S N T n 12 s dp μ h [] al ε uM pM) (v : yIv S h D r dp) (ha : al r = true) (hj : j < fCt S (h.2.1 r)) (h12 : S 12 (h.2.1 r) j = 12) (hp : (h.2.2.1 r j)[p]? = some q) (pl : μ 7756 237 ≠ 0) (en : μ 7869 (μ 7756 235).toNat = fX s (h.2.1 r) j) (lc : tLc μ (ε r) (fX s (h.2.1 r) j) (μ 7756 235) p) :
    R0 (ab_run wt (d + 11) 235 0 [(2, 7756), (0, (ε r)), (0, (fX s (h.2.1 r) j)), (3, 0), (3, 0)] [] μ) (fun e μ'' => ∃ al' ε', e = ε' h.1 ∧ TX S N T n 12 s dp μ'' (hPr S h r j p) [] al' ε' uM pM ∧ al' h.1 = true ∧ frH 12 μ μ'') := sorry
end Vk
end
section
section Vl
variable {μ μ' μ'' μ0 : ab_M} {d : Nat} {S : SF} {N : NF} {T : Nat → Int} {n : Nat} {k kq : Tok} {s m : Nat} {h h' : He} {al cur : Nat → Bool} {ε : Nat → Nat} {uM pM r j t dp rc la p t' : Nat} {D : Nat → Nat} {key : Int × List Int} {q : It} {it : Option Nat}
theorem tw_vold (x : TX S N T n 12 s dp μ h [] al ε uM pM) (ht : tT μ T n k) (v : yIv S h D r dp) (ha : al r = true) (hj : j < fCt S (h.2.1 r)) (hb : dp ≤ 12) (u2 : uM ≤ 445 + k.2.1) (p2 : pM ≤ 2050 + k.2.1) (l0 : la ≠ 0) (hp : (h.2.2.1 r j)[p]? = some q) (pl : μ 7756 237 = la) (en : μ 7869 (μ 7756 235).toNat = fX s (h.2.1 r) j) (lc : tLc μ (ε r) (fX s (h.2.1 r) j) (μ 7756 235) p) :
    tVr 12 S N T n s dp μ (ab_run wt (d + 12) 225 249 [(2, 7756), (0, (fX s (h.2.1 r) j)), (0, (ε r)), (0, (k.2.1)), (3, 0), (3, 0)] [] μ) (xEn S N T n dp (yVc S N T n h r j la (some p) key dp k)) := sorry
theorem tw_putHere (ty : TY S N T n s μ k h al ε uM pM) (v : yIv S h D r dp) (d0 : D 0 = 1) (ha : al r = true) (hj : j < fCt S (h.2.1 r)) (fx : yFx S h r j la it key) (cu : tCu S μ s pM ε h (some r, h.2.1 r, j, la, it)) (kf : tKf S μ s uM pM al ε h (some r) (h.2.1 r) j la key) (pd : μ 7756 239 = dp) (hb : dp ≤ 12) (lo : ¬ yLo h r j la it key) (u2 : uM ≤ 445 + k.2.1) (p2 : pM ≤ 2050 + k.2.1) (hL : (h.2.2.1 r j).length < 100000) :
    tVr 12 S N T n s dp (ab_up μ 7756 245 0) (ab_run wt (d + 12) 225 0 [(2, 7756), (3, 0), (3, 0), (3, 0), (3, 0), (3, 0)] [] μ) (xEn S N T n dp (yVc S N T n h r j la it key dp k)) := sorry
end Vl
end
section
section Vn
variable {μ μ' μ'' μ0 : ab_M} {d : Nat} {S : SF} {N : NF} {T : Nat → Int} {n : Nat} {h g hw hT : He} {s k uM pM r j t : Nat} {tp : List Int} {al : Nat → Bool} {ε : Nat → Nat}
def frTw (μ μ' : ab_M) : Prop := ∀ a i, ¬ mine 12 a i → ¬ mine 13 a i → (a < 7862 ∨ 7864 < a ∨ i ≠ 13) → a ≠ 7761 → a ≠ 7883 → a ≠ 7881 → a ≠ 7882 → a ≠ 7884 → (a ≠ 7756 ∨ (i < 7 ∨ 18 < i) ∧ (i < 154 ∨ 168 < i) ∧ (i < 233 ∨ 243 < i) ∧ i ≠ 245) → μ' a i = μ a i
def frTz (μ μ' : ab_M) : Prop := ∀ a i, ¬ mine 13 a i → (a < 7862 ∨ 7864 < a ∨ i ≠ 13) → a ≠ 7761 → a ≠ 7883 → a ≠ 7881 → a ≠ 7882 → a ≠ 7884 → (a ≠ 7756 ∨ (i < 7 ∨ 18 < i) ∧ (i < 154 ∨ 168 < i) ∧ (i < 233 ∨ 243 < i) ∧ i ≠ 245) → μ' a i = μ a i
theorem frTw.trans (f : frTw μ μ') (g : frTw μ' μ'') : frTw μ μ'' := sorry
theorem frTv.w (f : frTv 12 μ μ') : frTw μ μ' := sorry
theorem frTz.w (f : frTz μ μ') : frTw μ μ' := sorry
def tVl (T : Nat → Int) (n : Nat) (μ0 : ab_M) (run : ab_R) : Flt ⊕ Xs → Prop
  | .inl f => ∃ μ', run = some ((0, 0), μ') ∧ μ' 7756 17 = f.1 ∧ μ' 7756 18 = f.2 ∧ frTz μ0 μ'
  | .inr X => ∃ μ', run = some ((0, 1), μ') ∧ tT μ' T n X.1 ∧ μ' 7756 245 = 1 ∧ frTz μ0 μ'
def tLoP (S : SF) (N : NF) (T : Nat → Int) (n s d : Nat) : Prop := ∀ (μ : ab_M) (k : Tok) (h hT : He) (D : Nat → Nat) (r j la : Nat) (it : Option Nat) (key : Int × List Int) (dp : Nat) (ν : Option He) (ρ : Option Nat) (al : Nat → Bool) (ε : Nat → Nat) (uM pM : Nat),
  TY S N T n s μ k hT al ε uM pM → yIv S h D r dp → D 0 = 1 → yLs S ν h r → dp ≤ 12 → pRl h hT r ν ρ → tCu S μ s pM ε hT (ρ, h.2.1 r, j, la, it) → tKf S μ s uM pM al ε hT ρ (h.2.1 r) j la key → (∀ r, ρ = some r → al r = true) → μ 7756 239 = dp → j < fCt S (h.2.1 r) → yFx S h r j la it key → (yNf ν h r j la it key).isSome = true →
  tVl T n μ (ab_run wt (d + 12) 225 0 [(2, 7756), (3, 0), (3, 0), (3, 0), (3, 0), (3, 0)] [] μ) (xEn S N T n dp (yVc S N T n h r j la it key dp k))
theorem tCu.l {c : Cu} (x : tCu S μ s pM ε h c) (f : frL μ μ') : tCu S μ' s pM ε h c := sorry
theorem TD.ln {X : RsvT} {F : Nat → Prop} {m : Nat} (x : TD X F S N m s μ h al ε uM pM) (hr : r < h.1) (ha : al r = true) : (h.2.2.1 r j).length ≤ 4600 := sorry
theorem TD.sl {m m' : Nat} (ne : m ≠ m') (x : TD (fun _ => none) (fun _ => False) S N m s μ h al ε uM pM) (f : ∀ a i, 7762 ≤ a → a ≤ 7879 → ¬ mine m' a i → (a < 7862 ∨ 7864 < a ∨ i ≠ m') → μ' a i = μ a i) : TD (fun _ => none) (fun _ => False) S N m s μ' h al ε uM pM := sorry
def frTq (k : Nat) (μ μ' : ab_M) : Prop := ∀ a i, ¬ mine 12 a i → ¬ mine 13 a i → ¬ mine k a i → (a < 7862 ∨ 7864 < a ∨ i ≠ 12 ∧ i ≠ 13 ∧ i ≠ k) → a ≠ 7885 → a ≠ 7886 → a ≠ 7760 → a ≠ 7761 → a ≠ 7883 → a ≠ 7881 → a ≠ 7882 → a ≠ 7884 → (a ≠ 7756 ∨ i ≠ 1 ∧ i ≠ 4 ∧ i ≠ 6 ∧ (i < 7 ∨ 18 < i) ∧ (i < 154 ∨ 168 < i) ∧ (i < 233 ∨ 243 < i) ∧ i ≠ 245) → μ' a i = μ a i
def tPu (S : SF) (N : NF) (μ : ab_M) (k s : Nat) (y : Flt ⊕ (Option He × He)) (v : Int) (μ' : ab_M) : Prop := match y with
  | .inl f => v = w32 (-10 - f.1) ∧ μ' 7756 4 = f.2 ∧ kpT k μ μ'
  | .inr (ν, h') => if lgH S (ν.getD h') then v = w32 (-10 - 3) ∧ μ' 7756 4 = 0 ∧ kpT k μ μ'
    else if ν.isSome = true then v = -2 ∧ μ' 7756 4 = μ 7756 4 ∧ kpT k μ μ'
    else v = vlS S h' ∧ μ' 7756 4 = -2 ∧ μ' 7862 k = 1 ∧ ∃ g'', mT S N μ' k s g'' ∧ hEq S h' g''
def tQu (S : SF) (N : NF) (μ : ab_M) (k s : Nat) (y : Flt ⊕ (Option He × He)) (run : ab_R) : Prop := (∀ ν h', y = .inr (ν, h') → (0 ≤ vlS S (ν.getD h') ∧ vlS S (ν.getD h') < 2147483648) ∧ 0 ≤ btS S (ν.getD h') ∧ btS S (ν.getD h') < 2147483648) ∧
  R0 run (fun v μ' => μ' 7756 1 = 0 ∧ frTq k μ μ' ∧ tPu S N μ k s y v μ')
theorem tw_put0 (hk : k < 12) (z : μ 7862 k = 0) : (ab_run wt (d + 13) 220 0 [(2, 7756), (0, k)] [] μ) = some ((0, -2), μ) := sorry
theorem tw_putM {rw' : Nat → List Int} (hk : k < 12) (c : tR μ tp rw') (hb : ∀ x ∈ tp, 0 ≤ x ∧ x < 256) (g0 : S 99 0 0 = 0) (rz : rtZ μ k) (z : μ 7862 k = 1) (mt : mT S N μ k s g) (eq : hEq S h g) (wk : wkC S h hw) (hgs : ∀ ν h', yPu S N (tpT tp) tp.length hw = .inr (ν, h') → hG S h' ∧ pEn S h') (lost : tLoP S N (tpT tp) tp.length s d) :
    tQu S N μ k s (yPu S N (tpT tp) tp.length hw) (ab_run wt (d + 13) 220 0 [(2, 7756), (0, k)] [] μ) := sorry
end Vn
end
section
section Wa
variable {S : SF} {N : NF} {T : Nat → Int} {n bd : Nat} {h h' : He} {K : List Fr} {r j rc rc' : Nat} {key : Int × List Int} {k : Tok} {P : Nat → Prop} {φ : Nat → Nat} {X X' : Xs} {W W' : Flt ⊕ Xs}
def itK (t : It) : Int × List Int := (t.1, t.2.1)
def kyQ (L L' : List It) : Prop := L.map itK = L'.map itK
theorem kyC_q {kk v : Int} {l : List Int} {t t' : It} (e : itK t = itK t') : kyC kk t v l = kyC kk t' v l := sorry
theorem kyQ_cons {t t' : It} {L L' : List It} (w : kyQ (t :: L) (t' :: L')) : itK t = itK t' ∧ kyQ L L' := sorry
theorem kyQ.con {t t' : It} {L L' : List It} (a : itK t = itK t') (w : kyQ L L') : kyQ (t :: L) (t' :: L') := sorry
theorem kyQ.app {A A' B B' : List It} (a : kyQ A A') (b : kyQ B B') : kyQ (A ++ B) (A' ++ B') := sorry
theorem kyQ.tkd {kk v : Int} {l : List Int} : ∀ {L L' : List It}, kyQ L L' → kyQ (kTk kk v l L) (kTk kk v l L') ∧ kyQ (kDp kk v l L) (kDp kk v l L') := sorry
theorem kyQ.kb {kk : Int} {L L' : List It} (w : kyQ L L') : kyB kk key L = kyB kk key L' := sorry
def bsH (P : Nat → Prop) (φ : Nat → Nat) (h h' : He) : Prop := (∀ x, P x → x < h.1 → φ x < h'.1 ∧ h'.2.1 (φ x) = h.2.1 x ∧ ∀ c, kyQ (h.2.2.1 x c) (h'.2.2.1 (φ x) c)) ∧ (∀ x y, P x → P y → x < h.1 → y < h.1 → φ x = φ y → x = y) ∧ ∀ x, h.1 ≤ x → P x ∧ φ x = x - h.1 + h'.1
theorem bsH.put {V V' : Nat → Nat → List It} {U U' : Nat → List Un} (b : bsH P φ h h') (hp : P r) (hr : r < h.1) (e1 : ∀ c, kyQ (V r c) (V' (φ r) c)) (e2 : ∀ x, x ≠ r → V x = h.2.2.1 x) (e3 : ∀ y, y ≠ φ r → V' y = h'.2.2.1 y) : bsH P φ (h.1, h.2.1, V, U) (h'.1, h'.2.1, V', U') := sorry
theorem bsH.new {t : Nat} (b : bsH P φ h h') : bsH P φ (hOrp h t) (hOrp h' t) := sorry
theorem lvO_q {t c : Nat} {V V' : Nat → Nat → List It} {r' : Nat} (e : kyQ (V r c) (V' r' c)) : kyQ (lvO S t r j V r c) (lvO S t r' j V' r' c) := sorry
theorem lvO_x {t x : Nat} {V : Nat → Nat → List It} (z : x ≠ r) : lvO S t r j V x = V x := sorry
theorem upV_x {x : Nat} {V : Nat → Nat → List It} {l : List It} (z : x ≠ r) : upV V r j l x = V x := sorry
theorem upV_q {V V' : Nat → Nat → List It} {r' c : Nat} {l l' : List It} (a : kyQ l l') (b : c ≠ j → kyQ (V r c) (V' r' c)) : kyQ (upV V r j l r c) (upV V' r' j l' r' c) := sorry
theorem bsH.set {v : Int} {l : List Int} (b : bsH P φ h h') (hp : P r) (hr : r < h.1) : bsH P φ (hSet S N h r j key v l) (hSet S N h' (φ r) j key v l) := sorry
theorem nwV_x {V V' : Nat → Nat → List It} {m x : Nat} (e : V x = V' x) : nwV V m x = nwV V' m x := sorry
theorem nwV_q {V V' : Nat → Nat → List It} {m m' x x' c : Nat} (z : x < m) (z' : x' < m') (e : kyQ (V x c) (V' x' c)) : kyQ (nwV V m x c) (nwV V' m' x' c) := sorry
theorem bsH.rcd (b : bsH P φ h h') (hp : P r) (hr : r < h.1) : bsH P φ (hRec S h r j key) (hRec S h' (φ r) j key) := sorry
def bsF' (φ : Nat → Nat) (F : Fr) : Fr := (F.1, φ F.2.1, F.2.2)
def bsX (P : Nat → Prop) (φ : Nat → Nat) (X X' : Xs) : Prop := X'.1 = X.1 ∧ X'.2.2 = X.2.2.map (bsF' φ) ∧ (∀ F ∈ X.2.2, P F.2.1 ∧ F.2.1 < X.2.1.1) ∧ bsH P φ X.2.1 X'.2.1
def bsR (P : Nat → Prop) (φ : Nat → Nat) (W W' : Flt ⊕ Xs) : Prop := match W, W' with
  | .inl f, .inl f' => f = f'
  | .inr X, .inr X' => bsX P φ X X'
  | _, _ => False
def tkQ (W W' : Flt ⊕ Xs) : Prop := match W, W' with
  | .inl f, .inl f' => f = f'
  | .inr X, .inr X' => X.1 = X'.1
  | _, _ => False
theorem bsR.q (b : bsR P φ W W') : tkQ W W' := sorry
theorem recs_b : ∀ K : List Fr, recs (K.map (bsF' φ)) = recs K := sorry
theorem xBeh_b {k : Tok} : xBeh T n (K.map (bsF' φ)) k = xBeh T n K k := sorry
theorem xVal_b (b : bsH P φ h h') (hp : P r) (hr : r < h.1) (hK : ∀ F ∈ K, P F.2.1 ∧ F.2.1 < h.1) : bsR P φ (xVal S N T n bd h K r j key k) (xVal S N T n bd h' (K.map (bsF' φ)) (φ r) j key k) := sorry
theorem xPart_b {F : Fr} (b : bsH P φ h h') (hF : P F.2.1 ∧ F.2.1 < h.1) (hK : ∀ F ∈ K, P F.2.1 ∧ F.2.1 < h.1) : bsR P φ (xPart S N T n bd h F K k) (xPart S N T n bd h' (bsF' φ F) (K.map (bsF' φ)) k) := sorry
theorem xItem_b {F : Fr} (b : bsH P φ h h') (hF : P F.2.1 ∧ F.2.1 < h.1) (hK : ∀ F ∈ K, P F.2.1 ∧ F.2.1 < h.1) : bsR P φ (xItem S N T n bd h F K k) (xItem S N T n bd h' (bsF' φ F) (K.map (bsF' φ)) k) := sorry
theorem xStep_b (b : bsX P φ X X') : bsR P φ (xStep S N T n bd X) (xStep S N T n bd X') := sorry
theorem xIt_b : ∀ (c : Nat) (X X' : Xs), bsX P φ X X' → bsR P φ (xIt S N T n bd c X) (xIt S N T n bd c X') := sorry
theorem xEn_b (b : bsR P φ W W') : bsR P φ (xEn S N T n bd W) (xEn S N T n bd W') := sorry
theorem bsH_one (e1 : h.1 = rc + 1) (e2 : h'.1 = rc' + 1) (e3 : h'.2.1 rc' = h.2.1 rc) (e4 : ∀ c, h.2.2.1 rc c = []) (e5 : ∀ c, h'.2.2.1 rc' c = []) : bsH (fun x => rc ≤ x) (fun x => x - rc + rc') h h' := sorry
theorem xVq_b {q : Int} {t : Nat} {hs hs' : Int → List Int → He} (e1 : h.1 = rc + 1) (e2 : h'.1 = rc' + 1) (e3 : h'.2.1 rc' = h.2.1 rc) (e4 : ∀ c, h.2.2.1 rc c = []) (e5 : ∀ c, h'.2.2.1 rc' c = []) : tkQ (xEn S N T n bd (xVq S N T n bd q t hs h rc [] k)) (xEn S N T n bd (xVq S N T n bd q t hs' h' rc' [] k)) := sorry
theorem xOpn_b (hr : r < h.1) (h1 : h'.1 = 1) (et : h'.2.1 0 = h.2.1 r) (e4 : ∀ c, h.2.2.1 r c = []) (e5 : ∀ c, h'.2.2.1 0 c = []) : tkQ (xEn S N T n bd (xOpn S N T n bd h [] r j k)) (xEn S N T n bd (xOpn S N T n bd h' [] 0 j k)) := sorry
end Wa
end
section
section Wb
variable {μ μ' μ'' μ0 : ab_M} {d : Nat} {S : SF} {N : NF} {T : Nat → Int} {n : Nat} {k : Tok} {s : Nat} {h h' : He} {al : Nat → Bool} {ε : Nat → Nat} {uM pM r j t dp la : Nat} {D : Nat → Nat} {key : Int × List Int} {W : Flt ⊕ Xs}
def alZ : Nat → Bool := fun x => decide (x < 1)
theorem alZ_g : gAl alZ := sorry
theorem tw_clearZ {m : Nat} {x : Int} (e13 : m = 13) (hs : s < 4) (hk : (t : Int) < S 0 0 0 ∧ S 2 t 0 = 1) : R3 (ab_run wt (d + 1) 23 0 [(2, 7756), (0, m), (0, s), (0, x), (3, 0)] [] μ) (fun μ' => TM S μ' m s 1 alZ (fun _ => t) (fun _ _ => []) (fun _ => []) (fun _ => 4600 * m) 1 0 ∧ TC S μ' m 1 alZ (fun _ => t) (fun _ _ => []) (fun _ => []) ∧ ∀ a i, ¬ mine m a i → (a ≠ 7863 ∨ i ≠ m) → (a ≠ 7864 ∨ i ≠ m) → μ' a i = μ a i) := sorry
theorem hI_Z : hI S (hNew t) := sorry
theorem noOr_Z : noOr S (hNew t).1 alZ (hNew t).2.1 (hNew t).2.2.1 (fun _ => False) := sorry
theorem wV_nil' : ∀ {A : List We}, (∀ c, wV A c = []) → A = [] := sorry
theorem tw_keyedZ {fi : Nat} (x : TD (fun _ => none) (fun _ => False) S N 13 s μ (hNew t) alZ (fun _ => 59800) uM pM) (hu : uM < 4600) (p1 : μ 7756 240 = -2) (p2 : μ 7756 241 = key.1) (p3 : μ 7756 242 = fi) (f9 : fi ≤ 9000) :
    ∃ μ3, (∀ d, (ab_run wt (d + 3) 137 0 [(2, 7756), (0, 59800), (0, (fX s t j)), (3, 0), (3, 0)] [] μ) = ab_cal (ab_run wt (d + 2) 227 0 [(2, 7756), (0, 59800), (0, (-2)), (0, (((59800 + uM : Nat) : Int))), (3, 0), (3, 0)] [] μ3) 3 (fun r4 μ4 => some ((4, r4), μ4)) (fun _ μ4 => some ((0, ((59800 + uM : Nat) : Int)), μ4))) ∧ TD (fun _ => none) (fun _ => False) S N 13 s μ3 (hNew t) alZ (fun _ => 59800) (uM + 1) pM ∧ kyP S μ3 13 s (hNew t) alZ (fun _ => 59800) (uM + 1) pM 0 j (59800 + uM) (key.1, []) (-2) ∧ frK 13 μ μ3 := sorry
theorem tw_vnewL {fi : Nat} (x : TX S N T n 13 s dp μ (hNew t) [] alZ (fun _ => 59800) 1 0) (ms : μ 7863 12 = s) (ht : tT μ T n k) (tO : (t : Int) < S 0 0 0 ∧ S 2 t 0 = 1) (hj : j < fCt S t) (hb : dp ≤ 12) (l0 : la ≠ 0) (my : S 11 t j = 2 ∨ S 11 t j = 3) (l2 : S 11 t j = 3 → la = 2) (l1 : S 11 t j ≠ 3 → la = 1) (pl : μ 7756 237 = la) (pe : μ 7756 235 = -2) (pb : μ 7756 240 = -2) (kk : S 11 t j = 3 → kyE (S 14 t j) (key.1, []) = (key.1, []) ∧ lng key.1 ∧ μ 7756 241 = key.1 ∧ μ 7756 242 = fi ∧ fi ≤ 9000) :
    tVr 13 S N T n s dp μ (ab_run wt (d + 12) 225 249 [(2, 7756), (0, (fX s t j)), (0, 59800), (0, (k.2.1)), (3, 0), (3, 0)] [] μ) (xEn S N T n dp (xVq S N T n dp (S 12 t j) (S 13 t j).toNat (hSet S N (hNew t) 0 j (key.1, [])) (hRec S (hNew t) 0 j (key.1, [])) 1 [] k)) := sorry
theorem tw_lost : tLoP S N T n s d := sorry
end Wb
end
section
section Wc
variable {μ : ab_M} {d : Nat} {S : Nat → SF} {N : Nat → NF} {S0 : SF} {N0 : NF} {s s' k k2 : Nat} {g g' : He}
theorem mT.sch (mt : mT S0 N0 μ k s g) : μ 7863 k = s ∧ μ 7864 k = g.2.1 0 := sorry
theorem tw_mergeN (hk : k < 12) (hk2 : k2 < 12) (fl : μ 7862 k = 0 ∨ μ 7862 k = 1 ∧ mT (S s) (N s) μ k s g) (fl2 : μ 7862 k2 = 0 ∨ μ 7862 k2 = 1 ∧ mT (S s') (N s') μ k2 s' g') (no : μ 7862 k = 0 ∨ μ 7862 k2 = 0 ∨ ¬ (s = s' ∧ g.2.1 0 = g'.2.1 0)) :
    (ab_run wt (d + 11) 165 0 [(2, 7756), (0, k), (0, k2), (3, 0)] [] μ) = some ((0, -2), μ) := sorry
end Wc
end
section
section We
variable {μ ν : ab_M} {d : Nat} {S : SF} {N : NF} {h g : He} {s bs k : Nat} {tp : List Int}
theorem put_both {D : Nat} {rw' : Nat → List Int} (hD : 17000 ≤ D) (hk : k < 12) (c : cRow μ 3 4 4000 tp) (z : μ (6314 + 27 * k) 0 = 1) (mc : mC S N μ k s bs h) (ms : mS S h) (c' : tR ν tp rw') (hb : ∀ x ∈ tp, 0 ≤ x ∧ x < 256) (g0 : S 99 0 0 = 0) (rz : rtZ ν k) (z' : ν 7862 k = 1) (mt : mT S N ν k s g) (eq : hEq S h g) :
    ∃ y, R0 (ab_run wc ((D + 13)) 478 0 [(2, 1), (0, k), (3, 0)] [] μ) (fun v μ' => μ' 3 1 = 0 ∧ frPu k μ μ' ∧ cPu S N μ k s bs y v μ') ∧ R0 (ab_run wt (d + 13) 220 0 [(2, 7756), (0, k)] [] ν) (fun v μ' => μ' 7756 1 = 0 ∧ frTq k ν μ' ∧ tPu S N ν k s y v μ') := sorry
end We
end
section
section Wf
variable {S : SF} {N : NF} {h h' : He} {R : Nat → Nat → Bool} {t r r' j : Nat}
abbrev Wy := List (Nat × Nat)
def dfJ (S : SF) (h h' : He) (R : Nat → Nat → Bool) (P : Nat → Nat → List Wy) (r r' j : Nat) : List Wy := if qsL (S 12 (h.2.1 r) j) R (h.2.2.1 r j) (h'.2.2.1 r' j) = true then [] else match h.2.2.1 r j, h'.2.2.1 r' j with
  | q :: _, q' :: _ => if S 12 (h.2.1 r) j = 12 ∧ S 11 (h.2.1 r) j < 2 then (P q.2.2.2.2 q'.2.2.2.2).map ((h.2.1 r, j) :: ·) else [[(h.2.1 r, j)]]
  | [], _ => [[(h.2.1 r, j)]]
  | _ :: _, [] => [[(h.2.1 r, j)]]
def dfFs (S : SF) (g : Nat → List Wy) (t : Nat) : Nat → Nat → List Wy
  | 0, _ => []
  | m + 1, k => g (S 20 t k).toNat ++ dfFs S g t m (k + 1)
def dfR (S : SF) (h h' : He) : Nat → Nat → Nat → List Wy
  | 0, _, _ => []
  | f + 1, r, r' => dfFs S (dfJ S h h' (qsR S 0 h h' f) (dfR S h h' f) r r') (h.2.1 r) (fCt S (h.2.1 r)) 0
def wyT (N : NF) : Wy → List Int
  | [] => []
  | [p] => N 1 p.1 p.2
  | p :: q :: w => N 1 p.1 p.2 ++ 46 :: wyT N (q :: w)
theorem dfFs_len {g : Nat → List Wy} {G : Nat → Int} {n : Nat} (e : ∀ j, j < n → ((g j).length : Int) ≤ G j) : ∀ (m k : Nat), (∀ i, k ≤ i → i < k + m → (S 20 t i).toNat < n) → ((dfFs S g t m k).length : Int) ≤ sumB S t G m k := sorry
theorem sumN_add2 {G H : Nat → Int} : ∀ n, sumN (fun j => G j + H j) n = sumN G n + sumN H n := sorry
theorem wgV_1 {mode : Int} {q : It} {L : List It} : 1 ≤ wgV mode (q :: L) := sorry
theorem dfR_len (bn : bnOK S) (ht : hTy S h) (dn : hDn S h (fun _ => true)) (dn' : hDn S h' (fun _ => true)) : ∀ (f r r' : Nat), r < h.1 → r' < h'.1 → h.2.1 r = h'.2.1 r' → hKt S h f r → hKt S h' f r' → ((dfR S h h' f r r').length : Int) ≤ mzV S h f r + mzV S h' f r' := sorry
theorem qsF_at {v v' : Nat → List It} : ∀ (m j : Nat), qsF S t R v v' m j = true → ∀ i, j ≤ i → i < j + m → qsL (S 12 t i) R (v i) (v' i) = true := sorry
theorem dfFs_nil {g : Nat → List Wy} {n : Nat} (e : ∀ j, j < n → g j = []) : ∀ (m k : Nat), (∀ i, k ≤ i → i < k + m → (S 20 t i).toNat < n) → dfFs S g t m k = [] := sorry
theorem dfR_same (bn : bnOK S) (ht : hTy S h) {f : Nat} (hr : r < h.1) (e : qsR S 0 h h' f r r' = true) : dfR S h h' f r r' = [] := sorry
end Wf
end
section
section Wg
variable {μ μ' μ'' μ0 : ab_M} {d : Nat} {S : SF} {N : NF} {A cr ci cb kS b : Nat} {X : Rsv} {P l : List Int} {Q : List (List Int)} {a o : Nat}
def frDf (μ μ' : ab_M) : Prop := ∀ a i, a ≠ 1315 → a ≠ 1316 → a ≠ 1317 → (a ≠ 1 ∨ i ≠ 57) → μ' a i = μ a i
theorem frDf.refl : frDf μ μ := sorry
theorem frDf.trans (f : frDf μ μ') (g : frDf μ' μ'') : frDf μ μ'' := sorry
theorem frDf.m (f : frDf μ μ') (hm : isM A cr ci cb) (ha : inM A a) (i : Nat) : μ' a i = μ a i := sorry
theorem cMS.df (c : cMS μ A kS b S N) (hm : isM A cr ci cb) (f : frDf μ μ') : cMS μ' A kS b S N := sorry
theorem CM.df {nr : Nat} {ty : Nat → Nat} {V : Nat → Nat → List It} {U : Nat → List Un} {ni nu us : Nat} (c : CM X S μ A cr ci cb nr ty V U ni nu us) (hm : isM A cr ci cb) (f : frDf μ μ') : CM X S μ' A cr ci cb nr ty V U ni nu us := sorry
def cDf (μ : ab_M) (P : List Int) (Q : List (List Int)) : Prop := cBy μ 1317 0 P ∧ μ 1 57 = Q.length ∧ (∀ i, i ≤ Q.length → μ 1316 i = ((Q.take i).flatten.length : Nat)) ∧ cBy μ 1315 0 Q.flatten ∧ ∀ p ∈ Q, p.length ≤ 203
def cDo (run : ab_R) (μ : ab_M) (P : List Int) (Q : List (List Int)) : Prop := ∃ μ', run = some ((3, 0), μ') ∧ cDf μ' P Q ∧ frDf μ μ'
theorem fl_len : ∀ {Q : List (List Int)}, (∀ p ∈ Q, p.length ≤ 203) → Q.flatten.length ≤ 203 * Q.length := sorry
theorem cDf.cut (c : cDf μ (P ++ l) Q) : cDf μ P Q := sorry
theorem cDf.nm (c : cDf μ P Q) (hb : cBy μ a o l) : cDf (ab_cp μ a o 1317 P.length l.length) (P ++ l) Q ∧ frDf μ (ab_cp μ a o 1317 P.length l.length) := sorry
theorem c_df200 {x1 x2 x3 x4 x5 x6 x7 : Int} (c : cDf μ P Q) (hp : P.length ≤ 203) (hq : Q.length < 800) : ∃ μ', (ab_run wc (d + 1) 392 200 [(2, 1), (2, x1), (0, x2), (2, x3), (0, x4), (0, x5), (2, x6), (0, x7), (3, 0), (3, 0), (0, (P.length)), (3, 0), (3, 0)] [] μ) = (ab_run wc (d + 1) 392 11 [(2, 1), (2, x1), (0, x2), (2, x3), (0, x4), (0, x5), (2, x6), (0, (w32 (x7 + 1))), (3, 0), (3, 0), (3, 0), (3, 0), (3, 0)] [] μ') ∧ cDf μ' P (Q ++ [P]) ∧ frDf μ μ' := sorry
end Wg
end
section
section Wh
variable {μ μ' μ'' μ0 : ab_M} {d E : Nat} {S : SF} {N : NF} {A cr ci cb A' cr' ci' cb' kS b : Nat} {h h' : He} {X X' : Rsv} {t r j r' ni nu us ni' nu' us' f : Nat} {P : List Int} {Q : List (List Int)}
theorem i2b46 : i2b 46 = sg 46 := sorry
theorem wyT_cons {p : Nat × Nat} {w : Wy} (ne : w ≠ []) : wyT N (p :: w) = N 1 p.1 p.2 ++ 46 :: wyT N w := sorry
theorem dfJ_ne {R : Nat → Nat → Bool} {G : Nat → Nat → List Wy} : ∀ w ∈ dfJ S h h' R G r r' j, w ≠ [] := sorry
theorem dfFs_ne {g : Nat → List Wy} (e : ∀ j, ∀ w ∈ g j, w ≠ []) : ∀ (m k : Nat), ∀ w ∈ dfFs S g t m k, w ≠ [] := sorry
theorem dfR_ne : ∀ w ∈ dfR S h h' f r r', w ≠ [] := sorry
theorem wy_map {G : List Wy} (ne : ∀ w ∈ G, w ≠ []) : (G.map ((t, j) :: ·)).map (fun w => P ++ wyT N w) = G.map (fun w => (P ++ N 1 t j ++ [46]) ++ wyT N w) := sorry
theorem c_df11 (hm : isM A cr ci cb) (hm' : isM A' cr' ci' cb') (ms0 : cMS μ0 A kS b S N) (cm0 : CM X S μ0 A cr ci cb h.1 h.2.1 h.2.2.1 h.2.2.2 ni nu us) (cm0' : CM X' S μ0 A' cr' ci' cb' h'.1 h'.2.1 h'.2.2.1 h'.2.2.2 ni' nu' us') (bn : bnOK S) (hr : r < h.1) (hr' : r' < h'.1) (et : h'.2.1 r' = h.2.1 r) (p187 : P.length ≤ 187)
    (nh : ∀ j, j < fCt S (h.2.1 r) → S 12 (h.2.1 r) j = 12 → (∀ q ∈ h.2.2.1 r j, q.2.2.2.2 ≠ hole) ∧ ∀ q ∈ h'.2.2.1 r' j, q.2.2.2.2 ≠ hole)
    (sm : ∀ μ, frDf μ0 μ → ∀ j, j < fCt S (h.2.1 r) → (ab_run wc (E + 1) 421 0 [(2, 1), (2, A), (0, r), (2, (A')), (0, (r')), (2, (fdA b (h.2.1 r) j)), (0, j), (0, 0), (3, 0), (3, 0), (3, 0), (3, 0), (3, 0)] [] μ) = some ((0, bI (qsL (S 12 (h.2.1 r) j) (qsR S 0 h h' f) (h.2.2.1 r j) (h'.2.2.1 r' j))), μ))
    (hc : ∀ j, j < fCt S (h.2.1 r) → S 12 (h.2.1 r) j = 12 → ∀ q ∈ h.2.2.1 r j, ∀ q' ∈ h'.2.2.1 r' j, ∀ (μ : ab_M) (P2 : List Int) (Q : List (List Int)), frDf μ0 μ → cDf μ P2 Q → P2.length ≤ P.length + 17 → Q.length + (dfR S h h' f q.2.2.2.2 q'.2.2.2.2).length ≤ 800 → cDo (ab_run wc (E + 1) 392 0 [(2, 1), (2, A), (0, (q.2.2.2.2)), (2, (A')), (0, (q'.2.2.2.2)), (0, (P2.length)), (3, 0), (3, 0), (3, 0), (3, 0), (3, 0), (3, 0), (3, 0)] [] μ) μ P2 (Q ++ (dfR S h h' f q.2.2.2.2 q'.2.2.2.2).map (fun w => P2 ++ wyT N w))) :
    ∀ (m k : Nat) (μ : ab_M) (Q : List (List Int)), k + m = fCt S (h.2.1 r) → frDf μ0 μ → cDf μ P Q → Q.length + (dfFs S (dfJ S h h' (qsR S 0 h h' f) (dfR S h h' f) r r') (h.2.1 r) m k).length ≤ 800 → cDo (ab_run wc (E + 2) 392 11 [(2, 1), (2, A), (0, r), (2, (A')), (0, (r')), (0, (P.length)), (2, (tyA b (h.2.1 r))), (0, k), (3, 0), (3, 0), (3, 0), (3, 0), (3, 0)] [] μ) μ P (Q ++ (dfFs S (dfJ S h h' (qsR S 0 h h' f) (dfR S h h' f) r r') (h.2.1 r) m k).map (fun w => P ++ wyT N w)) := sorry
end Wh
end
section
section Wi
variable {μ μ' μ0 : ab_M} {S : SF} {N : NF} {A cr ci cb A' cr' ci' cb' kS b : Nat} {h h' : He} {X X' : Rsv} {ni nu us ni' nu' us' : Nat}
theorem c_dif (hm : isM A cr ci cb) (hm' : isM A' cr' ci' cb') (ms0 : cMS μ0 A kS b S N) (ms0' : cMS μ0 A' kS b S N) (cm0 : CM X S μ0 A cr ci cb h.1 h.2.1 h.2.2.1 h.2.2.2 ni nu us) (cm0' : CM X' S μ0 A' cr' ci' cb' h'.1 h'.2.1 h'.2.2.1 h'.2.2.2 ni' nu' us') (bn : bnOK S) (hi : hI S h) (hi' : hI S h') (cn : hCn S h) (cn' : hCn S h') (dn : hDn S h (fun _ => true)) (dn' : hDn S h' (fun _ => true)) :
    ∀ (f r r' dp : Nat), r < h.1 → r' < h'.1 → h.2.1 r = h'.2.1 r' → h.1 ≤ r + f → hKt S h f r → hKt S h' f r' → dpL S h f r dp → 1 ≤ dp → ∀ E, 3 * f + 20 ≤ E → ∀ (μ : ab_M) (P : List Int) (Q : List (List Int)), frDf μ0 μ → cDf μ P Q → P.length ≤ 17 * (dp - 1) → Q.length + (dfR S h h' f r r').length ≤ 800 → cDo (ab_run wc E 392 0 [(2, 1), (2, A), (0, r), (2, (A')), (0, (r')), (0, (P.length)), (3, 0), (3, 0), (3, 0), (3, 0), (3, 0), (3, 0), (3, 0)] [] μ) μ P (Q ++ (dfR S h h' f r r').map (fun w => P ++ wyT N w)) := sorry
end Wi
end
section
section Wj
variable {μ μ' : ab_M} {S : Nat → SF} {N : Nat → NF} {bs : Nat → Nat} {h h' : He} {s s' k k2 : Nat}
def dfM (S : SF) (h h' : He) : List Wy := dfR S h h' (h.1 + h'.1) 0 0
theorem dfM_len {S : SF} (bn : bnOK S) (w : hWell S h) (w' : hWell S h') (dn : hDn S h (fun _ => true)) (dn' : hDn S h' (fun _ => true)) (kd : hKd S h) (kd' : hKd S h') (ty : h.2.1 0 = h'.2.1 0) : ((dfM S h h').length : Int) ≤ vlS S h + vlS S h' := sorry
theorem c_differ {D : Nat} (hD : 3000 ≤ D) (hk : k < 12) (hk2 : k2 < 12) (bn : bnOK (S s)) (fl : μ (6314 + 27 * k) 0 = 0 ∨ μ (6314 + 27 * k) 0 = 1 ∧ mC (S s) (N s) μ k s (bs s) h ∧ hKd (S s) h) (fl2 : μ (6314 + 27 * k2) 0 = 0 ∨ μ (6314 + 27 * k2) 0 = 1 ∧ mC (S s') (N s') μ k2 s' (bs s') h' ∧ hKd (S s') h') :
    R0 (ab_run wc ((D + 1)) 391 0 [(2, 1), (0, k), (0, k2), (3, 0), (3, 0)] [] μ) (fun v μ' => if μ (6314 + 27 * k) 0 = 0 then v = -2 ∧ μ' = μ else if μ (6314 + 27 * k2) 0 = 0 then v = -2 ∧ μ' = μ else if ¬ (s = s' ∧ h.2.1 0 = h'.2.1 0) then v = -2 ∧ μ' = μ else v = (dfM (S s) h h').length ∧ cDf μ' [] ((dfM (S s) h h').map (wyT (N s))) ∧ frDf μ μ') := sorry
end Wj
end
section
section Wk
variable {μ μ' : ab_M} {d : Nat} {P : List Int} {Q : List (List Int)}
theorem c_pathB {x y : Int} (c : cDf μ P Q) (hx : ¬ (0 ≤ x ∧ x < Q.length) ∨ ¬ (0 ≤ y ∧ y < 8)) : (ab_run wc (d + 3) 469 0 [(2, 1), (0, x), (0, y)] [] μ) = some ((0, -1), μ) := sorry
theorem c_path {k r : Nat} {p : List Int} (c : cDf μ P Q) (hq : Q.length ≤ 800) (hk : Q[k]? = some p) (hr : r < 8) : R0 (ab_run wc (d + 3) 469 0 [(2, 1), (0, k), (0, r)] [] μ) (fun v μ' => v = p.length ∧ cRow μ' (rwA r) (rbA r) 4000 p ∧ ∀ a i, (a ≠ rwA r ∨ i ≠ 1) → a ≠ rbA r → μ' a i = μ a i) := sorry
end Wk
end
section
section Wl
variable {S : SF} {h h' g g' : He} {R R2 : Nat → Nat → Bool} {E E' : Nat → Nat → Prop} {t r r' x x' j : Nat}
theorem qsL_e {k : Int} (hR : k = 12 → ∀ a b a' b', E a a' → E' b b' → R a b = R2 a' b') : ∀ {L M L' M' : List It}, itsE E (decide (k = 12)) L M → itsE E' (decide (k = 12)) L' M' → qsL k R L L' = qsL k R2 M M' := sorry
theorem itsE.tm {rc : Bool} {G : Nat → Prop} : ∀ {L M : List It}, itsE E rc L M → (∀ q ∈ L, rc = true → G q.2.2.2.2) → itsE (fun a a' => E a a' ∧ G a) rc L M := sorry
theorem qsF_e {v v' u u' : Nat → List It} {n : Nat} (e : ∀ j, j < n → qsL (S 12 t j) R (v j) (v' j) = qsL (S 12 t j) R2 (u j) (u' j)) : ∀ (m j : Nat), j + m ≤ n → qsF S t R v v' m j = qsF S t R2 u u' m j := sorry
theorem qsR_e : ∀ (f n n' r r' x x' : Nat), h.2.1 r = h'.2.1 r' → eqT S h g n r x → eqT S h' g' n' r' x' → (∀ f, hKt S h f r) → (∀ f, hKt S h' f r') → qsR S 0 h h' f r r' = qsR S 0 g g' f x x' := sorry
theorem dfFs_e {G H : Nat → List Wy} {n : Nat} (e : ∀ j, j < n → G j = H j) : ∀ (m k : Nat), (∀ i, k ≤ i → i < k + m → (S 20 t i).toNat < n) → dfFs S G t m k = dfFs S H t m k := sorry
theorem dfR_e (bn : bnOK S) (hty : hTy S h) : ∀ (f n n' r r' x x' : Nat), h.2.1 r = h'.2.1 r' → eqT S h g n r x → eqT S h' g' n' r' x' → (∀ f, hKt S h f r) → (∀ f, hKt S h' f r') → dfR S h h' f r r' = dfR S g g' f x x' := sorry
end Wl
end
section
section Wm
variable {S : SF} {h h' g g' : He} {R R2 : Nat → Nat → Bool} {t j : Nat} {u : Int}
theorem qsL_c {k : Int} : ∀ {L L' : List It}, (k = 12 → ∀ q ∈ L, ∀ b, R q.2.2.2.2 b = R2 q.2.2.2.2 b) → qsL k R L L' = qsL k R2 L L' := sorry
theorem qsR_st (dn : hDn S h (fun _ => true)) : ∀ (f f' r r' : Nat), r < h.1 → h.1 ≤ r + f → h.1 ≤ r + f' → qsR S u h h' f r r' = qsR S u h h' f' r r' := sorry
theorem dfR_st (bn : bnOK S) (hty : hTy S h) (dn : hDn S h (fun _ => true)) : ∀ (f f' r r' : Nat), r < h.1 → h.1 ≤ r + f → h.1 ≤ r + f' → dfR S h h' f r r' = dfR S h h' f' r r' := sorry
theorem dfM_e (bn : bnOK S) (w : hWell S h) (dn : hDn S h (fun _ => true)) (w2 : hWell S g) (dn2 : hDn S g (fun _ => true)) (ty : h.2.1 0 = h'.2.1 0) (e : hEq S h g) (e' : hEq S h' g') (kd : hKd S h) (kd' : hKd S h') : dfM S h h' = dfM S g g' := sorry
end Wm
end
section
section Wn
variable {ρ ρ' : List Int}
theorem spn {p : Int → Prop} {c c' : Int} : ∀ {A B : List Int}, (∀ x ∈ A, p x) → (∀ x ∈ B, p x) → ¬ p c → ¬ p c' → A ++ c :: ρ = B ++ c' :: ρ' → A = B ∧ c = c' ∧ ρ = ρ' := sorry
abbrev isDg (x : Int) : Prop := 48 ≤ x ∧ x ≤ 57
theorem dgs_dg {u : Nat} : ∀ (k : Nat), ∀ x ∈ dgs u k, isDg x := sorry
theorem decL_dg {u : Nat} : ∀ x ∈ decL u, isDg x := sorry
def vlD (l : List Int) : Int := l.foldl (fun a x => 10 * a + (x - 48)) 0
theorem decL_9 {u : Nat} (h : u < 10) : decL u = [((48 + u : Nat) : Int)] := sorry
theorem decL_v : ∀ (f u : Nat), u < f → u < 18446744073709551616 → vlD (decL u) = u := sorry
theorem decL_inj {u v : Nat} (hu : u < 18446744073709551616) (hv : v < 18446744073709551616) (e : decL u = decL v) : u = v := sorry
def nmS (v : Int) : List Int := if v < 0 then 45 :: decL (-v).toNat else decL v.toNat
theorem nmS_ch {v : Int} : ∀ x ∈ nmS v, x = 45 ∨ isDg x := sorry
theorem decL_ne {u : Nat} : decL u ≠ [] := sorry
theorem decL_45 {u : Nat} {l : List Int} (e : decL u = 45 :: l) : False := sorry
theorem nmS_inj {v w : Int} (hv : lng v) (hw : lng w) (e : nmS v = nmS w) : v = w := sorry
end Wn
end
section
section Wo
variable {ρ ρ' : List Int}
theorem hxL_inj {a b : Int} (ha : 0 ≤ a ∧ a < 16) (hb : 0 ≤ b ∧ b < 16) (e : hxL a = hxL b) : a = b := sorry
theorem escB_inj {c c' : Int} (hc : 0 ≤ c ∧ c < 256) (hd : 0 ≤ c' ∧ c' < 256) {A B : List Int} (e : escB c ++ A = escB c' ++ B) : c = c' ∧ A = B := sorry
theorem escB_34 {c : Int} {A B : List Int} (e : escB c ++ A = 34 :: B) : False := sorry
theorem esc_inj : ∀ {l m : List Int}, byt l → byt m → l.flatMap escB ++ 34 :: ρ = m.flatMap escB ++ 34 :: ρ' → l = m ∧ ρ = ρ' := sorry
theorem strL_inj {l m : List Int} (hl : byt l) (hm : byt m) (e : strL l ++ ρ = strL m ++ ρ') : l = m ∧ ρ = ρ' := sorry
end Wo
end
section
section Wp
variable {S : SF} {N : NF} {h h' : He} {t j : Nat} {P P' : Nat → List Int} {R : Nat → Nat → Bool} {ρ ρ' σ σ' : List Int} {q q' : It}
theorem numL_ch {q v : Int} : ∀ x ∈ numL q v, x = 45 ∨ isDg x := sorry
theorem numL_inj {q v w : Int} (hv : lng v) (hw : lng w) (e : numL q v = numL q w) : v = w := sorry
theorem key_inj {k v v' : Int} {l l' : List Int} (hk : 1 ≤ k ∧ k ≤ 9) (lv : lng v) (lv' : lng v') (b : byt l) (b' : byt l') (e : sclL S N k 0 v l ++ 58 :: ρ = sclL S N k 0 v' l' ++ 58 :: ρ') : (k = 9 → l = l') ∧ (k ≠ 9 → v = v') ∧ ρ = ρ' := sorry
def piT (S : SF) (N : NF) (t j : Nat) (P : Nat → List Int) (q : It) : List Int := (if S 11 t j = 3 then sclL S N (S 14 t j) 0 q.1 q.2.1 ++ [58] else []) ++ (if S 12 t j = 12 then 123 :: P q.2.2.2.2 else if S 12 t j = 9 ∨ S 12 t j = 10 then strL q.2.2.2.1 else nmS q.2.2.1)
def piI (S : SF) (N : NF) (t : Nat) (P : Nat → List Int) (x : We) : List Int := 64 :: (nmS (S 10 t x.1) ++ 58 :: piT S N t x.1 P x.2)
def piW (S : SF) (N : NF) (t : Nat) (P : Nat → List Int) (L : List We) : List Int := L.flatMap (piI S N t P)
def piR (S : SF) (N : NF) (h : He) : Nat → Nat → List Int
  | 0, _ => []
  | f + 1, r => piW S N (h.2.1 r) (piR S N h f) (grp (h.2.2.1 r) (byN S (h.2.1 r) (fCt S (h.2.1 r)) 0)) ++ [125]
def itQ (S : SF) (t j : Nat) (q : It) : Prop := itC S t j q ∧ (S 11 t j ≠ 3 → q.1 = 0 ∧ q.2.1 = []) ∧ byt q.2.1 ∧ lng q.1 ∧ lng q.2.2.1 ∧ byt q.2.2.2.1
def stQe (σ : List Int) : Prop := ∃ τ, σ = 64 :: τ ∨ σ = 125 :: τ
theorem piW_st {L : List We} : stQe (piW S N t P L ++ 125 :: ρ) := sorry
theorem nm_end {v v' : Int} (lv : lng v) (lv' : lng v') (s : stQe σ) (s' : stQe σ') (e : nmS v ++ σ = nmS v' ++ σ') : v = v' ∧ σ = σ' := sorry
theorem piT_inj (fo : fdOK S N t j) (a : itQ S t j q) (a' : itQ S t j q') (s : stQe σ) (s' : stQe σ') (HP : S 12 t j = 12 → ∀ ρ ρ', P q.2.2.2.2 ++ ρ = P' q'.2.2.2.2 ++ ρ' → R q.2.2.2.2 q'.2.2.2.2 = true ∧ ρ = ρ') (e : piT S N t j P q ++ σ = piT S N t j P' q' ++ σ') : qsI (S 12 t j) R q q' = true ∧ σ = σ' := sorry
def weE (S : SF) (t : Nat) (R : Nat → Nat → Bool) : List We → List We → Prop
  | [], [] => True
  | x :: L, x' :: L' => x.1 = x'.1 ∧ qsI (S 12 t x.1) R x.2 x'.2 = true ∧ weE S t R L L'
  | [], _ :: _ => False
  | _ :: _, [] => False
theorem piW_inj {n : Nat} (fo : ∀ j, j < n → fdOK S N t j) (nu : ∀ j j', j < n → j' < n → S 10 t j = S 10 t j' → j = j') : ∀ {L L' : List We}, (∀ x ∈ L, x.1 < n ∧ itQ S t x.1 x.2) → (∀ x ∈ L', x.1 < n ∧ itQ S t x.1 x.2) → (∀ x ∈ L, ∀ x' ∈ L', x.1 = x'.1 → S 12 t x.1 = 12 → ∀ ρ ρ', P x.2.2.2.2.2 ++ ρ = P' x'.2.2.2.2.2 ++ ρ' → R x.2.2.2.2.2 x'.2.2.2.2.2 = true ∧ ρ = ρ') → piW S N t P L ++ 125 :: ρ = piW S N t P' L' ++ 125 :: ρ' → weE S t R L L' ∧ ρ = ρ' := sorry
theorem weE.at {j : Nat} : ∀ {L L' : List We}, weE S t R L L' → qsL (S 12 t j) R (wV L j) (wV L' j) = true := sorry
theorem qsL_pi : ∀ {L L' : List It}, (S 12 t j = 12 → ∀ q ∈ L, ∀ q' ∈ L', R q.2.2.2.2 q'.2.2.2.2 = true → P q.2.2.2.2 = P' q'.2.2.2.2) → qsL (S 12 t j) R L L' = true → piW S N t P (L.map (Prod.mk j)) = piW S N t P' (L'.map (Prod.mk j)) := sorry
theorem piW_grp {v : Nat → List It} {js : List Nat} : piW S N t P (grp v js) = js.flatMap fun j => piW S N t P ((v j).map (Prod.mk j)) := sorry
theorem qsR_pi (bn : bnOK S) (ht : hTy S h) (dn : hDn S h (fun _ => true)) : ∀ (f r r' : Nat), qsR S 0 h h' f r r' = true → r < h.1 → h.2.1 r = h'.2.1 r' → hKt S h f r → hKt S h' f r' → piR S N h f r = piR S N h' f r' := sorry
def hQ (S : SF) (h : He) : Prop := ∀ r j, r < h.1 → j < fCt S (h.2.1 r) → ∀ q ∈ h.2.2.1 r j, itQ S (h.2.1 r) j q
theorem hQ.of (hi : hI S h) (hn : hNm S h) (hc : hCn S h) : hQ S h := sorry
theorem grp_mem {v : Nat → List It} {js : List Nat} {x : We} (hx : x ∈ grp v js) : x.1 ∈ js ∧ x.2 ∈ v x.1 := sorry
theorem fd_of (ok : scOK S N) (t1 : (t : Int) < S 0 0 0) (t2 : S 2 t 0 = 1) : ∀ j, j < fCt S t → fdOK S N t j := sorry
theorem qsF_of {v v' : Nat → List It} : ∀ (m j : Nat), (∀ i, j ≤ i → i < j + m → qsL (S 12 t i) R (v i) (v' i) = true) → qsF S t R v v' m j = true := sorry
theorem piR_inj (ok : scOK S N) (bn : bnOK S) (nu : nuOK S) (ht : hTy S h) (ht' : hTy S h') (dn : hDn S h (fun _ => true)) (dn' : hDn S h' (fun _ => true)) (iq : hQ S h) (iq' : hQ S h') : ∀ (f r r' : Nat) (ρ ρ' : List Int), r < h.1 → r' < h'.1 → h.2.1 r = h'.2.1 r' → h.1 < r + f → hKt S h f r → hKt S h' f r' → piR S N h f r ++ ρ = piR S N h' f r' ++ ρ' → qsR S 0 h h' f r r' = true ∧ ρ = ρ' := sorry
theorem piF_inj (ok : scOK S N) (bn : bnOK S) (nu : nuOK S) (ht : hTy S h) (ht' : hTy S h') (dn : hDn S h (fun _ => true)) (dn' : hDn S h' (fun _ => true)) (iq : hQ S h) (iq' : hQ S h') {f r r' : Nat} (hr : r < h.1) (hr' : r' < h'.1) (et : h.2.1 r = h'.2.1 r') (hf : h.1 < r + f + 1) (kd : hKt S h (f + 1) r) (kd' : hKt S h' (f + 1) r') (hj : j < fCt S (h.2.1 r)) : piW S N (h.2.1 r) (piR S N h f) ((h.2.2.1 r j).map (Prod.mk j)) ++ [125] = piW S N (h.2.1 r) (piR S N h' f) ((h'.2.2.1 r' j).map (Prod.mk j)) ++ [125] ↔ qsL (S 12 (h.2.1 r) j) (qsR S 0 h h' f) (h.2.2.1 r j) (h'.2.2.1 r' j) = true := sorry
end Wp
end
section
section Wq
variable {μ μ' μ'' μ0 : ab_M} {d : Nat} {O : List Int} {S : SF} {N : NF} {m s t j r uM pM G : Nat} {h : He} {ε : Nat → Nat} {W : Nat → List We} {c uc : Nat → List Nat} {own : Nat → Nat} {o : Int} {P : Nat → List Int}
def frI (μ μ' : ab_M) : Prop := ∀ a i, a ≠ 7887 → a ≠ 7928 → a ≠ 7929 → (a ≠ 7756 ∨ i ≠ 172) → μ' a i = μ a i
theorem frI.refl : frI μ μ := sorry
theorem frI.trans (f : frI μ μ') (g : frI μ' μ'') : frI μ μ'' := sorry
theorem frM2.i (f : frM2 μ μ') : frI μ μ' := sorry
theorem TS.i (c : TS μ s S N) (f : frI μ μ') : TS μ' s S N := sorry
theorem tEn.i {i : Nat} {x : We} (e : tEn S μ m s pM ε t i x) (f : frI μ μ') : tEn S μ' m s pM ε t i x := sorry
def tWk (S : SF) (μ : ab_M) (m s pM : Nat) (ε : Nat → Nat) (t : Nat) (o : Int) : Int → List We → Prop
  | x, [] => x < 0 ∨ (0 ≤ o ∧ ∃ i : Nat, x = i ∧ i < 73600 ∧ μ 7869 i ≠ o)
  | x, y :: L => ∃ i : Nat, x = i ∧ i < 73600 ∧ tEn S μ m s pM ε t i y ∧ (o < 0 ∨ μ 7869 i = o) ∧ tWk S μ m s pM ε t o (μ 7870 i) L
theorem tWk.run : ∀ {L : List It} {x : Int}, tRun S μ m s pM ε t j x L → tWk S μ m s pM ε t (fX s t j) x (L.map (Prod.mk j)) := sorry
theorem tWk.all : ∀ {L : List We} {cL : List Nat} {x : Int}, tSg μ x cL (-2) → tEs S μ m s pM ε t cL L → (∀ i ∈ cL, i < 73600) → tWk S μ m s pM ε t (-2) x L := sorry
def TPi (d m : Nat) (μ0 : ab_M) (ε : Nat → Nat) (out : List Int) (r G : Nat) : Prop := ∀ (μ : ab_M) (O : List Int), frI μ0 μ → tOu μ O → μ 7928 G = μ0 7871 (ε r) → μ 7929 G = -2 → O.length + out.length < 2147300000 → ∃ μ', (ab_run wt (d + 7) 218 32 [(2, 7756), (3, 0), (0, m), (0, (((G + 1 : Nat) : Int))), (3, 0), (3, 0), (3, 0)] [] μ) = (ab_run wt (d + 7) 218 32 [(2, 7756), (3, 0), (0, m), (0, ((G : Int))), (3, 0), (3, 0), (3, 0)] [] μ') ∧ tOu μ' (O ++ out) ∧ frI μ0 μ' ∧ ∀ i, i < G → μ' 7928 i = μ 7928 i ∧ μ' 7929 i = μ 7929 i
theorem tw_pil (m16 : m < 16) (pm : pM ≤ 9000) (ts : TS μ0 s S N) (t1 : (t : Int) < S 0 0 0) (t2 : S 2 t 0 = 1) (g12 : G ≤ 12) :
    ∀ (L : List We) (x : Int) (μ : ab_M) (O : List Int), tWk S μ0 m s pM ε t o x L → (∀ y ∈ L, itQ S t y.1 y.2) → (∀ y ∈ L, S 12 t y.1 = 12 → ε y.2.2.2.2.2 < 73600 ∧ TPi d m μ0 ε (P y.2.2.2.2.2) y.2.2.2.2.2 (G + 1) ∧ G + 1 ≤ 12) → frI μ0 μ → tOu μ O → μ 7928 G = x → μ 7929 G = o → O.length + (piW S N t P L ++ [125]).length < 2147300000 →
    ∃ μ', (ab_run wt (d + 7) 218 32 [(2, 7756), (3, 0), (0, m), (0, (((G + 1 : Nat) : Int))), (3, 0), (3, 0), (3, 0)] [] μ) = (ab_run wt (d + 7) 218 32 [(2, 7756), (3, 0), (0, m), (0, ((G : Int))), (3, 0), (3, 0), (3, 0)] [] μ') ∧ tOu μ' (O ++ (piW S N t P L ++ [125])) ∧ frI μ0 μ' ∧ ∀ i, i < G → μ' 7928 i = μ 7928 i ∧ μ' 7929 i = μ 7929 i := sorry
end Wq
end
section
section Wl
variable {S : SF} {N : NF} {h : He} {t j n : Nat} {P : Nat → List Int} {F : Nat → Int}
theorem sumN_at {G : Nat → Int} (p : ∀ i, 0 ≤ G i) : ∀ {n j : Nat}, j < n → G j ≤ sumN G n := sorry
theorem sumI_at (p : ∀ x, 0 ≤ F x) : ∀ {L : List It} {q : It}, q ∈ L → F q.2.2.2.2 ≤ sumI F L := sorry
theorem cvF_p {f r x : Nat} : 0 ≤ cvF S h f r x := sorry
theorem cbF_p {f r x : Nat} : 0 ≤ cbF S h f r x := sorry
theorem mzV_in {f r : Nat} {q : It} (hj : j < fCt S (h.2.1 r)) (z : S 12 (h.2.1 r) j = 12) (hq : q ∈ h.2.2.1 r j) : mzV S h f q.2.2.2.2 ≤ mzV S h (f + 1) r ∧ mzB S h f q.2.2.2.2 ≤ mzB S h (f + 1) r := sorry
theorem nmS_len {v : Int} : (nmS v).length ≤ 21 ∧ (0 ≤ v → (nmS v).length ≤ 20) := sorry
theorem strL_len {l : List Int} : (strL l).length ≤ 4 * l.length + 2 := sorry
theorem piI_len {q : It} (ok : scOK S N) (fo : fdOK S N t j) (hP : S 12 t j = 12 → ((P q.2.2.2.2).length : Int) ≤ 1 + F q.2.2.2.2) : ((piI S N t P (j, q)).length : Int) ≤ 84 + (4 * q.2.1.length + 4 * q.2.2.2.1.length) + (if S 12 t j = 12 then F q.2.2.2.2 else 0) := sorry
theorem piF_len (ok : scOK S N) (fo : fdOK S N t j) : ∀ (L : List It), (S 12 t j = 12 → ∀ q ∈ L, ((P q.2.2.2.2).length : Int) ≤ 1 + F q.2.2.2.2) → ((piW S N t P (L.map (Prod.mk j))).length : Int) ≤ 84 * L.length + 4 * byV L + (if S 12 t j = 12 then sumI F L else 0) := sorry
theorem wl_wg {mode : Int} {L : List It} : (L.length : Int) ≤ wgV mode L := sorry
theorem piR_len (ok : scOK S N) (bn : bnOK S) (ht : hTy S h) (dn : hDn S h (fun _ => true)) : ∀ (f r : Nat), r < h.1 → ((piR S N h f r).length : Int) ≤ 1 + (84 * mzV S h f r + 4 * mzB S h f r) ∧ ∀ f', f = f' + 1 → ∀ j, j < fCt S (h.2.1 r) → ((piW S N (h.2.1 r) (piR S N h f') ((h.2.2.1 r j).map (Prod.mk j))).length : Int) ≤ 84 * mzV S h f r + 4 * mzB S h f r := sorry
end Wl
end
section
section Wr
variable {μ μ' μ'' μ0 : ab_M} {d : Nat} {O : List Int} {S : SF} {N : NF} {m m' s t j r r' uM pM uM' pM' f dp : Nat} {h h' : He} {ε ε' : Nat → Nat} {W W' : Nat → List We} {c uc c' uc' : Nat → List Nat} {own own' : Nat → Nat}
theorem dpL_le : ∀ {f r dp dp' : Nat}, dp' ≤ dp → dpL S h f r dp → dpL S h f r dp' := sorry
theorem tH.grp (H : tH S μ m s h.1 (fun _ => true) h.2.1 h.2.2.1 h.2.2.2 ε W c uc own uM pM) (bn : bnOK S) (hr : r < h.1) : W r = grp (h.2.2.1 r) (byN S (h.2.1 r) (fCt S (h.2.1 r)) 0) := sorry
theorem tw_TPi (H : tH S μ0 m s h.1 (fun _ => true) h.2.1 h.2.2.1 h.2.2.2 ε W c uc own uM pM) (ts : TS μ0 s S N) (bn : bnOK S) (iq : hQ S h) : ∀ (f r G : Nat), r < h.1 → h.1 ≤ r + f → dpL S h f r G → G ≤ 12 → TPi d m μ0 ε (piR S N h f r) r G := sorry
def piX (S : SF) (N : NF) (h : He) (f r j : Nat) : List Int := piW S N (h.2.1 r) (piR S N h f) ((h.2.2.1 r j).map (Prod.mk j)) ++ [125]
theorem tFst_mem {f : Int} : ∀ {c : List Nat}, tFst μ f c = -2 ∨ ∃ i ∈ c, tFst μ f c = i := sorry
theorem tH.fnd2 (H : tH S μ m s h.1 (fun _ => true) h.2.1 h.2.2.1 h.2.2.2 ε W c uc own uM pM) (ts : TS μ s S N) (hr : r < h.1) (hj : j < fCt S (h.2.1 r)) : ∃ x : Int, (∀ d, (ab_run wt (d + 1) 61 0 [(2, 7756), (0, (ε r)), (0, (fX s (h.2.1 r) j)), (3, 0)] [] μ) = some ((0, x), μ)) ∧ (h.2.2.1 r j = [] → x = -2) ∧ (h.2.2.1 r j ≠ [] → tRun S μ m s pM ε (h.2.1 r) j x (h.2.2.1 r j) ∧ ∃ i : Nat, x = i ∧ 4600 * m < i ∧ i < 4600 * m + 4600) := sorry
theorem tw_printItems {i : Nat} (H : tH S μ m s h.1 (fun _ => true) h.2.1 h.2.2.1 h.2.2.2 ε W c uc own uM pM) (ts : TS μ s S N) (bn : bnOK S) (iq : hQ S h) (hr : r < h.1) (hj : j < fCt S (h.2.1 r)) (hf : h.1 ≤ r + (f + 1)) (dl : dpL S h (f + 1) r dp) (dp1 : 1 ≤ dp) (ne : h.2.2.1 r j ≠ []) (rn : tRun S μ m s pM ε (h.2.1 r) j i (h.2.2.1 r j)) (i1 : 4600 * m < i) (i2 : i < 4600 * m + 4600) (ln : (piX S N h f r j).length < 60000) :
    R3 (ab_run wt (d + 8) 218 0 [(2, 7756), (0, i), (3, 0), (3, 0), (3, 0), (3, 0), (3, 0)] [] μ) (fun μ' => tOu μ' (piX S N h f r j) ∧ frI μ μ') := sorry
def frF (μ μ' : ab_M) : Prop := ∀ a i, a ≠ 7887 → a ≠ 7928 → a ≠ 7929 → a ≠ 7927 → (a ≠ 7756 ∨ i ≠ 172) → μ' a i = μ a i
theorem frF.refl : frF μ μ := sorry
theorem frF.trans (f : frF μ μ') (g : frF μ' μ'') : frF μ μ'' := sorry
theorem frI.ff (f : frI μ μ') : frF μ μ' := sorry
theorem tw_is36 {x3 : Int} {X : List Int} (ln : X.length < 60000) : ∀ (l : List Int) (k : Nat) (μ : ab_M), k + l.length = X.length → (∀ (i : Nat) (x : Int), X[i]? = some x → μ 7887 i = x) → (∀ (i : Nat) (x : Int), i < k → X[i]? = some x → μ 7927 i = x) → ∃ μ', (ab_run wt (d + 1) 87 36 [(2, 7756), (3, 0), (3, 0), (0, x3), (0, (X.length)), (0, k), (3, 0)] [] μ) = (ab_run wt (d + 1) 87 71 [(2, 7756), (3, 0), (3, 0), (0, x3), (0, (X.length)), (3, 0), (3, 0)] [] μ') ∧ (∀ (i : Nat) (x : Int), X[i]? = some x → μ' 7927 i = x) ∧ ∀ a i, a ≠ 7927 → μ' a i = μ a i := sorry
theorem tw_is95 {X Y : List Int} (ln : X.length < 60000) : ∀ (k : Nat) (b : Int), (b = 0 ∨ b = 1) → k ≤ X.length → (b = 1 → X.length = Y.length ∧ X.take (X.length - k) = Y.take (X.length - k)) → (b = 0 → X ≠ Y) → (∀ (i : Nat) (x : Int), X[i]? = some x → μ 7927 i = x) → (∀ (i : Nat) (x : Int), i < 60000 → Y[i]? = some x → μ 7887 i = x) → (ab_run wt (d + 1) 87 95 [(2, 7756), (3, 0), (3, 0), (3, 0), (0, (X.length)), (0, b), (0, (((X.length - k : Nat) : Int)))] [] μ) = some ((0, if X = Y then 1 else 0), μ) := sorry
theorem tw_isFieldSame {ff : Int} {i i' : Nat} (H : tH S μ m s h.1 (fun _ => true) h.2.1 h.2.2.1 h.2.2.2 ε W c uc own uM pM) (H' : tH S μ m' s h'.1 (fun _ => true) h'.2.1 h'.2.2.1 h'.2.2.2 ε' W' c' uc' own' uM' pM') (ts : TS μ s S N) (bn : bnOK S) (iq : hQ S h) (iq' : hQ S h') (hr : r < h.1) (hr' : r' < h'.1) (et : h.2.1 r = h'.2.1 r') (hj : j < fCt S (h.2.1 r)) (hf : h.1 ≤ r + (f + 1)) (hf' : h'.1 ≤ r' + (f + 1)) (dl : dpL S h (f + 1) r dp) (dl' : dpL S h' (f + 1) r' dp) (dp1 : 1 ≤ dp) (ne : h.2.2.1 r j ≠ []) (ne' : h'.2.2.1 r' j ≠ []) (rn : tRun S μ m s pM ε (h.2.1 r) j i (h.2.2.1 r j)) (rn' : tRun S μ m' s pM' ε' (h.2.1 r) j i' (h'.2.2.1 r' j)) (i1 : 4600 * m < i ∧ i < 4600 * m + 4600) (i1' : 4600 * m' < i' ∧ i' < 4600 * m' + 4600) (ln : (piX S N h f r j).length < 60000) (ln' : (piX S N h' f r' j).length < 60000) (toI : ∀ {μ1 : ab_M}, frF μ μ1 → tH S μ1 m' s h'.1 (fun _ => true) h'.2.1 h'.2.2.1 h'.2.2.2 ε' W' c' uc' own' uM' pM') :
    ∃ μ', (ab_run wt (d + 9) 87 0 [(2, 7756), (0, ff), (0, i), (0, (i')), (3, 0), (3, 0), (3, 0)] [] μ) = some ((0, if piX S N h f r j = piX S N h' f r' j then 1 else 0), μ') ∧ frF μ μ' := sorry
end Wr
end
section
section Ws
variable {μ μ' μ'' μ0 : ab_M} {d : Nat} {S : SF} {N : NF} {m m' s t j r r' uM pM uM' pM' f dp : Nat} {h h' : He} {ε ε' : Nat → Nat} {W W' : Nat → List We} {c uc c' uc' : Nat → List Nat} {own own' : Nat → Nat}
def frDz (μ μ' : ab_M) : Prop := ∀ a i, a ≠ 7887 → a ≠ 7928 → a ≠ 7929 → a ≠ 7927 → a ≠ 7924 → a ≠ 7925 → a ≠ 7926 → a ≠ 7921 → a ≠ 7922 → a ≠ 7923 → (a ≠ 7756 ∨ i ≠ 172 ∧ i ≠ 175 ∧ i ≠ 246) → μ' a i = μ a i
theorem frDz.refl : frDz μ μ := sorry
theorem frDz.trans (f : frDz μ μ') (g : frDz μ' μ'') : frDz μ μ'' := sorry
theorem frF.dt (f : frF μ μ') : frDz μ μ' := sorry
theorem frDz.lo (f : frDz μ μ') {a : Nat} (h1 : a < 7887) (h2 : a ≠ 7756) (i : Nat) : μ' a i = μ a i := sorry
theorem TS.dt (ts : TS μ s S N) (f : frDz μ μ') : TS μ' s S N := sorry
theorem tH.dt (H : tH S μ0 m s h.1 (fun _ => true) h.2.1 h.2.2.1 h.2.2.2 ε W c uc own uM pM) (f : frDz μ0 μ) : tH S μ m s h.1 (fun _ => true) h.2.1 h.2.2.1 h.2.2.2 ε W c uc own uM pM := sorry
def tDf (μ : ab_M) (Q : List (List (List Int))) : Prop := μ 7756 246 = Q.length ∧ ∀ (k : Nat) (w : List (List Int)), Q[k]? = some w → μ 7921 k = w.length ∧ w.length ≤ 12 ∧ ∀ (i : Nat) (l : List Int), w[i]? = some l → nmOK l ∧ tNm (μ 7922 (12 * k + i)) (μ 7923 (12 * k + i)) l
def wyN (N : NF) (w : Wy) : List (List Int) := w.map fun p => N 1 p.1 p.2
theorem tDf.to {Q : List (List (List Int))} (c : tDf μ Q) (e1 : μ' 7756 246 = μ 7756 246) (e2 : ∀ i, μ' 7921 i = μ 7921 i) (e3 : ∀ i, μ' 7922 i = μ 7922 i) (e4 : ∀ i, μ' 7923 i = μ 7923 i) : tDf μ' Q := sorry
def tKw (S : SF) (h : He) (ε : Nat → Nat) (μ : ab_M) (K : List (Nat × Nat)) : Prop := ∀ (i : Nat) (p : Nat × Nat), K[i]? = some p → p.1 < h.1 ∧ p.2 < fCt S (h.2.1 p.1) ∧ μ 7924 i = ε p.1 ∧ μ 7926 i = S 10 (h.2.1 p.1) p.2
def kWy (h : He) (K : List (Nat × Nat)) : Wy := K.map fun p => (h.2.1 p.1, p.2)
theorem tw_dif38 {K : List (Nat × Nat)} {dd : Nat} (H : tH S μ0 m s h.1 (fun _ => true) h.2.1 h.2.2.1 h.2.2.2 ε W c uc own uM pM) (m12 : m < 12) (ts : TS μ0 s S N) (k12 : K.length ≤ 12) (d1 : dd < 1000) : ∀ (n k : Nat) (μ : ab_M), k + n = K.length → frDz μ0 μ → tKw S h ε μ K → μ 7756 175 = K.length → (∀ (i : Nat) (l : List Int), i < k → (wyN N (kWy h K))[i]? = some l → tNm (μ 7922 (12 * dd + i)) (μ 7923 (12 * dd + i)) l) →
    ∃ μ', (ab_run wt (d + 4) 40 38 [(2, 7756), (0, dd), (0, k), (3, 0), (3, 0)] [] μ) = some ((3, 0), μ') ∧ (∀ (i : Nat) (l : List Int), (wyN N (kWy h K))[i]? = some l → tNm (μ' 7922 (12 * dd + i)) (μ' 7923 (12 * dd + i)) l) ∧ ∀ a i, (a ≠ 7922 ∧ a ≠ 7923 ∨ i < 12 * dd ∨ 12 * dd + 12 ≤ i) → μ' a i = μ a i := sorry
theorem wyN_ok {K : List (Nat × Nat)} (ok : scOK S N) (ht : hTy S h) (kw : tKw S h ε μ K) : ∀ (i : Nat) (l : List Int), (wyN N (kWy h K))[i]? = some l → nmOK l := sorry
theorem tw_difference {K : List (Nat × Nat)} {Q : List (List (List Int))} (H : tH S μ0 m s h.1 (fun _ => true) h.2.1 h.2.2.1 h.2.2.2 ε W c uc own uM pM) (m12 : m < 12) (ts : TS μ0 s S N) (k12 : K.length ≤ 12) (q1 : Q.length < 1000) (fr : frDz μ0 μ) (kw : tKw S h ε μ K) (gg : μ 7756 175 = K.length) (c : tDf μ Q) :
    R3 (ab_run wt (d + 4) 40 0 [(2, 7756), (3, 0), (3, 0), (3, 0), (3, 0)] [] μ) (fun μ' => tDf μ' (Q ++ [wyN N (kWy h K)]) ∧ frDz μ μ' ∧ (∀ i, μ' 7924 i = μ 7924 i ∧ μ' 7925 i = μ 7925 i ∧ μ' 7926 i = μ 7926 i) ∧ μ' 7756 175 = μ 7756 175) := sorry
end Ws
end
section
section Wt
variable {μ μ' μ'' μ0 : ab_M} {d : Nat} {S : SF} {N : NF} {m m' s t j uM pM uM' pM' : Nat} {h h' : He} {ε ε' : Nat → Nat} {W W' : Nat → List We} {c uc c' uc' : Nat → List Nat} {own own' : Nat → Nat}
noncomputable def dfI (d s t j : Nat) (x y : Int) (μ4 : ab_M) : ab_R := ab_cal (ab_run wt (d + 11) 87 0 [(2, 7756), (0, (fX s t j)), (0, x), (0, y), (3, 0), (3, 0), (3, 0)] [] μ4) 0 (fun r5 μ5 => some ((4, r5), μ5)) (fun r5 μ5 => if r5 = 0 then ab_cal (ab_run wt (d + 11) 40 0 [(2, 7756), (3, 0), (3, 0), (3, 0), (3, 0)] [] μ5) 3 (fun r6 μ6 => some ((4, r6), μ6)) (fun _ μ6 => (ab_run wt (d + 12) 39 108 [(2, 7756), (3, 0), (3, 0), (3, 0), (3, 0), (3, 0), (3, 0), (3, 0), (3, 0), (3, 0)] [] μ6)) else (ab_run wt (d + 12) 39 108 [(2, 7756), (3, 0), (3, 0), (3, 0), (3, 0), (3, 0), (3, 0), (3, 0), (3, 0), (3, 0)] [] μ5))
noncomputable def dfC (d s t j : Nat) (x y : Int) (μ4 : ab_M) : ab_R := if μ4 7780 (fX s t j) = 12 then (if μ4 7779 (fX s t j) < 2 then (if x < 0 then dfI d s t j x y μ4 else if y < 0 then dfI d s t j x y μ4 else if 0 ≤ μ4 7756 175 ∧ μ4 7756 175 < 16 then (ab_run wt (d + 12) 39 108 [(2, 7756), (3, 0), (3, 0), (3, 0), (3, 0), (3, 0), (3, 0), (3, 0), (3, 0), (3, 0)] [] (ab_up (ab_up (ab_up (ab_up μ4 7924 (μ4 7756 175).toNat x) 7925 (μ4 7756 175).toNat y) 7926 (μ4 7756 175).toNat 0) 7756 175 (w32 (μ4 7756 175 + 1)))) else none) else dfI d s t j x y μ4) else dfI d s t j x y μ4
theorem tw_difR (H : tH S μ0 m s h.1 (fun _ => true) h.2.1 h.2.2.1 h.2.2.2 ε W c uc own uM pM) (H' : tH S μ0 m' s h'.1 (fun _ => true) h'.2.1 h'.2.2.1 h'.2.2.2 ε' W' c' uc' own' uM' pM') (m12 : m < 12) (m12' : m' < 12) (ts : TS μ0 s S N) (bn : bnOK S) (dn : hDn S h (fun _ => true)) (dn' : hDn S h' (fun _ => true)) (iq : hQ S h) (iq' : hQ S h') :
    ∀ (f r r' dp : Nat), r < h.1 → r' < h'.1 → h.2.1 r = h'.2.1 r' → h.1 < r + f → h'.1 < r' + f → hKt S h f r → hKt S h' f r' → dpL S h f r dp → dpL S h' f r' dp → 84 * mzV S h f r + 4 * mzB S h f r < 59000 → 84 * mzV S h' f r' + 4 * mzB S h' f r' < 59000 →
    ∀ (μ : ab_M) (K : List (Nat × Nat)) (Q : List (List (List Int))), frDz μ0 μ → tDf μ Q → tKw S h ε μ K → K.length + 1 = dp → μ 7756 175 = ((K.length + 1 : Nat) : Int) → μ 7924 K.length = ε r → μ 7925 K.length = ε' r' → μ 7926 K.length = 0 → Q.length + (dfR S h h' f r r').length < 1000 →
    ∃ μ', (ab_run wt (d + 12) 39 108 [(2, 7756), (3, 0), (3, 0), (3, 0), (3, 0), (3, 0), (3, 0), (3, 0), (3, 0), (3, 0)] [] μ) = (ab_run wt (d + 12) 39 108 [(2, 7756), (3, 0), (3, 0), (3, 0), (3, 0), (3, 0), (3, 0), (3, 0), (3, 0), (3, 0)] [] μ') ∧ frDz μ0 μ' ∧ tDf μ' (Q ++ (dfR S h h' f r r').map fun w => wyN N (kWy h K ++ w)) ∧ μ' 7756 175 = (K.length : Int) ∧ ∀ i, i < K.length → μ' 7924 i = μ 7924 i ∧ μ' 7925 i = μ 7925 i ∧ μ' 7926 i = μ 7926 i := sorry
end Wt
end
section
section Wu
variable {μ μ' μ0 : ab_M} {d : Nat} {S : Nat → SF} {N : Nat → NF} {g g' : He} {s s' k k2 : Nat}
def dtJ : List (List Int) → List Int
  | [] => []
  | [l] => l
  | l :: l' :: L => l ++ 46 :: dtJ (l' :: L)
theorem dtJ_wy {N : NF} : ∀ w : Wy, dtJ (wyN N w) = wyT N w := sorry
theorem tw_differ (hk : k < 12) (hk2 : k2 < 12) (bn : bnOK (S s)) (fl : μ 7862 k = 0 ∨ μ 7862 k = 1 ∧ mT (S s) (N s) μ k s g) (fl2 : μ 7862 k2 = 0 ∨ μ 7862 k2 = 1 ∧ mT (S s') (N s') μ k2 s' g') :
    R0 (ab_run wt (d + 12) 39 0 [(2, 7756), (0, k), (0, k2), (3, 0), (3, 0), (3, 0), (3, 0), (3, 0), (3, 0), (3, 0)] [] μ) (fun v μ' => if μ 7862 k = 0 then v = -2 ∧ μ' = μ else if μ 7862 k2 = 0 then v = -2 ∧ μ' = μ else if ¬ (s = s' ∧ g.2.1 0 = g'.2.1 0) then v = -2 ∧ μ' = μ else v = (dfM (S s) g g').length ∧ tDf μ' ((dfM (S s) g g').map (wyN (N s))) ∧ frDz μ μ') := sorry
theorem tw_pathB {x y : Int} {Q : List (List (List Int))} (c : tDf μ Q) (hx : ¬ (0 ≤ x ∧ x < Q.length) ∨ ¬ (0 ≤ y ∧ y < 8)) : (ab_run wt (d + 3) 208 0 [(2, 7756), (0, x), (0, y), (3, 0)] [] μ) = some ((0, -1), μ) := sorry
theorem tw_p29 {Q : List (List (List Int))} {w : List (List Int)} {row : Nat} (hk : Q[k]? = some w) (q1 : Q.length ≤ 1000) : ∀ (L : List (List Int)) (i : Nat) (μ : ab_M) (O : List Int), w = w.take i ++ L → i ≤ w.length → tDf μ Q → tOu μ O → O.length + 17 * L.length < 100000 → ∃ μ', (ab_run wt (d + 3) 208 29 [(2, 7756), (0, k), (0, row), (0, i)] [] μ) = ab_cal (ab_run wt (d + 2) 160 0 [(2, 7756), (0, row), (3, 0)] [] μ') 0 (fun r1 μ1 => some ((4, r1), μ1)) (fun r1 μ1 => some ((0, r1), μ1)) ∧ tOu μ' (O ++ (if 0 < i ∧ L ≠ [] then [46] else []) ++ dtJ L) ∧ frM2 μ μ' := sorry
theorem tw_path2 {Q : List (List (List Int))} {w : List (List Int)} {row : Nat} (c : tDf μ Q) (q1 : Q.length ≤ 1000) (hk : Q[k]? = some w) (hr : row < 8) : R0 (ab_run wt (d + 3) 208 0 [(2, 7756), (0, k), (0, row), (3, 0)] [] μ) (fun v μ' => v = (dtJ w).length ∧ (dtJ w).length ≤ 300 ∧ μ' 7759 row = (dtJ w).length ∧ tBy μ' 7758 (4000 * row) (dtJ w) ∧ ∀ a i, a ≠ 7887 → (a ≠ 7756 ∨ i ≠ 172) → (a ≠ 7759 ∨ i ≠ row) → (a ≠ 7758 ∨ i < 4000 * row ∨ 4000 * row + 4000 ≤ i) → μ' a i = μ a i) := sorry
end Wu
end
section
section Xp
abbrev PS := Tok × List Int
abbrev Nm := List Int × Nat × Nat
abbrev Cn := Nm × Int × Nat
abbrev Tr := Int × List Int × Nat
abbrev Vl := Int × Int × List Int × Nat
abbrev Fe := Int × (Int × Nat) × Option (Nat × Tr) × Tr × Nm × (Int × Nat) × Option Vl
abbrev Ev := (Int × Nat) ⊕ (Nm ⊕ Fe)
abbrev Td := Int × Nm × (Nat × Nat) × List Cn × List Ev
abbrev Nd := Int × Int × Nm
abbrev Sp := Int × Nm × List Nd
abbrev Cl := Nm × Nm × Nm × (Int × Nat) × List Sp
abbrev Sd := Nm × (Nat × Nat) × List Nm × List Cl
abbrev Dr := List Td × List Sd
def nmZ0 : Nm := ([], 0, 0)
def bnd {α β : Type} (x : Flt ⊕ α) (f : α → Flt ⊕ β) : Flt ⊕ β := match x with
  | .inl e => .inl e
  | .inr a => f a
variable (T : Nat → Int) (n : Nat)
def zFr (T : Nat → Int) : Nat → Nat → Nat
  | 0, p => p
  | m + 1, p => if T p = 48 then zFr T m (p + 1) else p
def wOut (k : Tok) : List Int := (if k.1 = 3 then slc T (zFr T (k.2.2.1 - 1 - k.2.1) k.2.1) (k.2.2.1 - zFr T (k.2.2.1 - 1 - k.2.1) k.2.1) else slc T k.2.1 (k.2.2.1 - k.2.1)) ++ [32]
noncomputable def spA (σ : PS) : Flt ⊕ PS := bnd (xAdv T n σ.1) fun k => .inr (k, σ.2 ++ wOut T σ.1)
noncomputable def spG (c : Int) (σ : PS) : Flt ⊕ PS := if isSg σ.1 c then spA T n σ else .inl (2, (σ.1.2.1 : Int))
noncomputable def spW (w : Int) (σ : PS) : Flt ⊕ PS := if isWd σ.1 w then spA T n σ else .inl (2, (σ.1.2.1 : Int))
noncomputable def spN (full : Bool) (σ : PS) : Flt ⊕ (Nm × PS) := if σ.1.1 = 1 then (if full = true then .inl (3, (σ.1.2.1 : Int)) else bnd (spA T n σ) fun σ' => .inr ((tkN T σ.1, σ.1.2.1, σ.2.length), σ')) else .inl (2, (σ.1.2.1 : Int))
noncomputable def spU0 (σ : PS) : Flt ⊕ ((Int × Nat) × PS) := if σ.1.1 = 3 then bnd (spA T n σ) fun σ' => .inr ((σ.1.2.2.2.1, σ.1.2.1), σ') else .inl (2, (σ.1.2.1 : Int))
noncomputable def spI (σ : PS) : Flt ⊕ ((Int × Nat) × PS) := if isSg σ.1 45 then bnd (spA T n σ) fun σ1 => bnd (spU0 T n σ1) fun q => .inr ((-q.1.1, σ.1.2.1), q.2) else spU0 T n σ
noncomputable def spConsts : Nat → Nat → PS → Flt ⊕ (List Cn × PS)
  | 0, _, _ => .inl (0, 0)
  | f + 1, j, σ => bnd (spN T n (decide (j = 16)) σ) fun p => bnd (spG T n 61 p.2) fun σ2 => bnd (spI T n σ2) fun q => bnd (spG T n 59 q.2) fun σ4 => if isSg σ4.1 125 then .inr ([(p.1, q.1)], σ4) else bnd (spConsts f (j + 1) σ4) fun r => .inr ((p.1, q.1) :: r.1, r.2)
noncomputable def spEnum (nt b : Nat) (σ : PS) : Flt ⊕ (Td × PS) := bnd (spN T n (decide (nt = 30)) σ) fun p => bnd (spG T n 123 p.2) fun σ3 => bnd (spConsts T n (n + 1) 0 σ3) fun q => bnd (spA T n q.2) fun σ5 => .inr ((0, p.1, (b, σ5.2.length), q.1, []), σ5)
noncomputable def spKeeps : Nat → PS → Flt ⊕ (List (Int × Nat) × PS)
  | 0, _ => .inl (0, 0)
  | f + 1, σ => bnd (spU0 T n σ) fun q => if isSg q.2.1 44 then bnd (spA T n q.2) fun σ2 => bnd (spKeeps f σ2) fun r => .inr (q.1 :: r.1, r.2) else bnd (spG T n 59 q.2) fun σ2 => .inr ([q.1], σ2)
noncomputable def spT (σ : PS) : Flt ⊕ (Tr × PS) := if σ.1.1 = 2 ∧ 13 ≤ σ.1.2.2.2.1 ∧ σ.1.2.2.2.1 ≤ 23 then bnd (spA T n σ) fun σ' => .inr ((σ.1.2.2.2.1 - 13, [], σ.1.2.1), σ') else bnd (spN T n false σ) fun p => .inr ((99, p.1.1, σ.1.2.1), p.2)
noncomputable def spV (σ : PS) : Flt ⊕ (Vl × PS) :=
  if σ.1.1 = 4 then bnd (spA T n σ) fun σ' => .inr ((3, 0, σ.1.2.2.2.2, σ.1.2.1), σ')
  else if σ.1.1 = 1 then bnd (spA T n σ) fun σ' => .inr ((4, 0, tkN T σ.1, σ.1.2.1), σ')
  else if σ.1.1 = 2 then (if σ.1.2.2.2.1 = 24 ∨ σ.1.2.2.2.1 = 25 then bnd (spA T n σ) fun σ' => .inr ((if σ.1.2.2.2.1 = 24 then 1 else 2, 0, [], σ.1.2.1), σ') else .inl (2, (σ.1.2.1 : Int)))
  else bnd (spI T n σ) fun q => .inr ((0, q.1.1, [], q.1.2), q.2)
noncomputable def spMo (σ : PS) : Flt ⊕ (Int × PS) := if isWd σ.1 5 then bnd (spA T n σ) fun σ' => .inr (2, σ') else if isWd σ.1 6 then bnd (spA T n σ) fun σ' => .inr (1, σ') else .inr (0, σ)
noncomputable def spMap (σ : PS) : Flt ⊕ (Option (Nat × Tr) × PS) := if isWd σ.1 7 then bnd (spA T n σ) fun σ1 => bnd (spG T n 60 σ1) fun σ2 => bnd (spT T n σ2) fun p => bnd (spG T n 44 p.2) fun σ4 => .inr (some (σ.1.2.1, p.1), σ4) else .inr (none, σ)
noncomputable def spEq (σ : PS) : Flt ⊕ (Option Vl × PS) := if isSg σ.1 61 then bnd (spA T n σ) fun σ1 => bnd (spV T n σ1) fun p => .inr (some p.1, p.2) else .inr (none, σ)
noncomputable def spFl (one : Int) (nf : Nat) (σ : PS) : Flt ⊕ (Fe × PS) := bnd (spMo T n σ) fun a => bnd (spMap T n a.2) fun b => bnd (spT T n b.2) fun t => bnd (if b.1 = none then .inr t.2 else spG T n 62 t.2) fun σ3 => bnd (spN T n (decide (nf = 24)) σ3) fun p => bnd (spG T n 64 p.2) fun σ5 => bnd (spU0 T n σ5) fun q => bnd (spEq T n q.2) fun v => bnd (spG T n 59 v.2) fun σ8 => .inr ((one, (a.1, σ.1.2.1), b.1, t.1, p.1, q.1, v.1), σ8)
noncomputable def spOF (one : Int) : Nat → Nat → PS → Flt ⊕ (List Fe × PS)
  | 0, _, _ => .inl (0, 0)
  | f + 1, nf, σ => bnd (spFl T n one nf σ) fun p => if isSg p.2.1 125 then bnd (spA T n p.2) fun σ2 => .inr ([p.1], σ2) else bnd (spOF one f (nf + 1) p.2) fun r => .inr (p.1 :: r.1, r.2)
noncomputable def spBody : Nat → Nat → Nat → PS → Flt ⊕ (List Ev × PS)
  | 0, _, _, _ => .inl (0, 0)
  | f + 1, no, nf, σ =>
    if isSg σ.1 125 then bnd (spA T n σ) fun σ' => .inr ([], σ')
    else if isWd σ.1 4 then bnd (spA T n σ) fun σ1 => bnd (spKeeps T n (n + 1) σ1) fun q => bnd (spBody f no nf q.2) fun r => .inr (q.1.map Sum.inl ++ r.1, r.2)
    else if isWd σ.1 3 then bnd (spA T n σ) fun σ1 => bnd (spN T n (decide (no = 8)) σ1) fun p => bnd (spG T n 123 p.2) fun σ3 => bnd (spOF T n (no : Int) (n + 1) nf σ3) fun q => bnd (spBody f (no + 1) (nf + q.1.length) q.2) fun r => .inr (Sum.inr (Sum.inl p.1) :: (q.1.map (fun x => Sum.inr (Sum.inr x)) ++ r.1), r.2)
    else bnd (spFl T n (-1) nf σ) fun p => bnd (spBody f no (nf + 1) p.2) fun r => .inr (Sum.inr (Sum.inr p.1) :: r.1, r.2)
noncomputable def spRec (nt b : Nat) (σ : PS) : Flt ⊕ (Td × PS) := bnd (spN T n (decide (nt = 30)) σ) fun p => bnd (spG T n 123 p.2) fun σ3 => bnd (spBody T n (n + 1) 0 0 σ3) fun q => .inr ((1, p.1, (b, q.2.2.length), [], q.1), q.2)
noncomputable def spCells : Nat → Nat → PS → Flt ⊕ (List Nm × PS)
  | 0, _, _ => .inl (0, 0)
  | f + 1, j, σ => if isWd σ.1 9 then bnd (spA T n σ) fun σ1 => bnd (spN T n (decide (j = 8)) σ1) fun p => bnd (spG T n 59 p.2) fun σ3 => bnd (spCells f (j + 1) σ3) fun r => .inr (p.1 :: r.1, r.2) else .inr ([], σ)
abbrev Xr := Flt ⊕ (List Nd × Nat × PS)
noncomputable def spOpd (c : Nat) (σ : PS) : Xr :=
  if σ.1.1 = 3 then (if c = 100 then .inl (3, (σ.1.2.1 : Int)) else bnd (spA T n σ) fun σ' => .inr ([(0, σ.1.2.2.2.1, nmZ0)], c + 1, σ'))
  else if isWd σ.1 10 then (if c = 100 then .inl (3, (σ.1.2.1 : Int)) else bnd (spA T n σ) fun σ1 => bnd (spG T n 46 σ1) fun σ2 => bnd (spN T n false σ2) fun p => .inr ([(2, 0, p.1)], c + 1, p.2))
  else if σ.1.1 = 1 then (if c = 100 then .inl (3, (σ.1.2.1 : Int)) else bnd (spN T n false σ) fun p => .inr ([(1, 0, p.1)], c + 1, p.2))
  else .inl (2, (σ.1.2.1 : Int))
abbrev rkO (r : Nat) (k : Tok) : Prop := k.1 = 5 ∧ (if r = 3 then k.2.2.2.1 = 42 ∨ k.2.2.2.1 = 47 ∨ k.2.2.2.1 = 37 else k.2.2.2.1 = 43 ∨ k.2.2.2.1 = 45)
noncomputable def spMore (r : Nat) (U : Nat → PS → Xr) : Nat → List Nd → Nat → PS → Xr
  | 0, _, _, _ => .inl (0, 0)
  | f + 1, e, c, σ => if rkO r σ.1 then (if c = 100 then .inl (3, (σ.1.2.1 : Int)) else bnd (spA T n σ) fun σ1 => bnd (U (c + 1) σ1) fun p => spMore r U f (e ++ p.1 ++ [(σ.1.2.2.2.1, 0, nmZ0)]) p.2.1 p.2.2) else .inr (e, c, σ)
noncomputable def spLv (r : Nat) (U : Nat → PS → Xr) (c : Nat) (σ : PS) : Xr := bnd (U c σ) fun p => spMore T n r U (n + 1) p.1 p.2.1 p.2.2
noncomputable def spSum (U : Nat → PS → Xr) : Nat → PS → Xr := spLv T n 2 (spLv T n 3 U)
abbrev isCmp (k : Tok) : Prop := k.1 = 5 ∧ (k.2.2.2.1 = 256 ∨ k.2.2.2.1 = 257 ∨ k.2.2.2.1 = 60 ∨ k.2.2.2.1 = 258 ∨ k.2.2.2.1 = 62 ∨ k.2.2.2.1 = 259)
noncomputable def spExp (U : Nat → PS → Xr) (c : Nat) (σ : PS) : Xr := bnd (spSum T n U c σ) fun p => if isCmp p.2.2.1 then (if p.2.1 = 100 then .inl (3, (p.2.2.1.2.1 : Int)) else bnd (spA T n p.2.2) fun σ1 => bnd (spSum T n U (p.2.1 + 1) σ1) fun q => .inr (p.1 ++ q.1 ++ [(p.2.2.1.2.2.2.1, 0, nmZ0)], q.2)) else .inr p
noncomputable def spU : Nat → Nat → PS → Xr
  | 0, c, σ => if isSg σ.1 45 ∨ isSg σ.1 33 ∨ isSg σ.1 40 then .inl (3, (σ.1.2.1 : Int)) else spOpd T n c σ
  | F + 1, c, σ => if isSg σ.1 45 ∨ isSg σ.1 33 then (if c = 100 then .inl (3, (σ.1.2.1 : Int)) else bnd (spA T n σ) fun σ1 => bnd (spU F (c + 1) σ1) fun p => .inr (p.1 ++ [(if isSg σ.1 45 then 400 else 401, 0, nmZ0)], p.2))
    else if isSg σ.1 40 then bnd (spA T n σ) fun σ1 => bnd (spExp T n (spU F) c σ1) fun p => bnd (spG T n 41 p.2.2) fun σ3 => .inr (p.1, p.2.1, σ3)
    else spOpd T n c σ
noncomputable def spHd (σ : PS) : Flt ⊕ ((Int × Nm) × PS) := if isWd σ.1 12 then bnd (spA T n σ) fun σ1 => .inr ((2, nmZ0), σ1)
  else if isWd σ.1 11 then bnd (spA T n σ) fun σ1 => bnd (spG T n 46 σ1) fun σ2 => bnd (spN T n false σ2) fun p => bnd (spG T n 61 p.2) fun σ4 => .inr ((1, p.1), σ4)
  else bnd (spN T n false σ) fun p => bnd (spG T n 61 p.2) fun σ2 => .inr ((0, p.1), σ2)
noncomputable def spSt (c : Nat) (σ : PS) : Flt ⊕ (Sp × Nat × PS) := bnd (spHd T n σ) fun a => bnd (spExp T n (spU T n 10) c a.2) fun p => bnd (spG T n 59 p.2.2) fun σ3 => .inr ((a.1.1, a.1.2, p.1), p.2.1, σ3)
noncomputable def spSts : Nat → Nat → PS → Flt ⊕ (List Sp × Nat × PS)
  | 0, _, _ => .inl (0, 0)
  | f + 1, c, σ => if isSg σ.1 125 then bnd (spA T n σ) fun σ' => .inr ([], c, σ') else bnd (spSt T n c σ) fun p => bnd (spSts f p.2.1 p.2.2) fun r => .inr (p.1 :: r.1, r.2)
noncomputable def spCall (j : Nat) (σ : PS) : Flt ⊕ (Cl × PS) := bnd (spN T n (decide (j = 10)) σ) fun p => bnd (spG T n 40 p.2) fun σ2 => bnd (spN T n false σ2) fun a => bnd (spG T n 41 a.2) fun σ4 => bnd (spN T n false σ4) fun b => bnd (spG T n 64 b.2) fun σ6 => bnd (spU0 T n σ6) fun q => bnd (spG T n 123 q.2) fun σ8 => bnd (spSts T n (n + 1) 0 σ8) fun r => .inr ((p.1, a.1, b.1, q.1, r.1), r.2.2)
noncomputable def spCalls : Nat → Nat → PS → Flt ⊕ (List Cl × PS)
  | 0, _, _ => .inl (0, 0)
  | f + 1, j, σ => if isSg σ.1 125 then bnd (spA T n σ) fun σ' => .inr ([], σ') else bnd (spW T n 8 σ) fun σ1 => bnd (spCall T n j σ1) fun p => bnd (spCalls f (j + 1) p.2) fun r => .inr (p.1 :: r.1, r.2)
noncomputable def spSv (nv b : Nat) (σ : PS) : Flt ⊕ (Sd × PS) := bnd (spN T n (decide (nv = 4)) σ) fun p => bnd (spG T n 123 p.2) fun σ3 => bnd (spCells T n (n + 1) 0 σ3) fun a => bnd (spCalls T n (n + 1) 0 a.2) fun r => .inr ((p.1, (b, r.2.2.length), a.1, r.1), r.2)
noncomputable def spAll : Nat → Dr → PS → Flt ⊕ (Dr × PS)
  | 0, _, _ => .inl (0, 0)
  | f + 1, D, σ =>
    if σ.1.1 = 0 then .inr (D, σ)
    else if isWd σ.1 0 then bnd (spA T n σ) fun σ1 => bnd (spEnum T n D.1.length σ.2.length σ1) fun p => spAll f (D.1 ++ [p.1], D.2) p.2
    else if isWd σ.1 1 then bnd (spA T n σ) fun σ1 => bnd (spRec T n D.1.length σ.2.length σ1) fun p => spAll f (D.1 ++ [p.1], D.2) p.2
    else bnd (spW T n 2 σ) fun σ1 => bnd (spSv T n D.2.length σ.2.length σ1) fun p => spAll f (D.1, D.2 ++ [p.1]) p.2
noncomputable def spText : Flt ⊕ (Dr × List Int) := match lx T n 0 with
  | none => .inl (1, (lxB T n false 0 : Int))
  | some k => bnd (spAll T n (n + 1) ([], []) (k, [])) fun p => .inr (p.1, p.2.2)
end Xp
end
section
section Xq
variable {T : Nat → Int} {n : Nat} {σ σ' : PS} {μ μ' μ'' μ0 : ab_M} {d : Nat}
theorem slc_ln {T : Nat → Int} : ∀ (m p : Nat), (slc T p m).length = m := sorry
theorem slc_by {T : Nat → Int} {n : Nat} (hT : ∀ k, k < n → 0 ≤ T k ∧ T k < 256) : ∀ (m p : Nat), p + m ≤ n → byt (slc T p m) := sorry
theorem zFr_le {T : Nat → Int} : ∀ (m p : Nat), p ≤ zFr T m p ∧ zFr T m p ≤ p + m := sorry
def psO (T : Nat → Int) (n : Nat) (σ : PS) : Prop := tkO T n σ.1 ∧ σ.2.length ≤ 2 * σ.1.2.1 ∧ byt σ.2
theorem wOut_len {k : Tok} (t : tkO T n k) (z : k.1 ≠ 0) : (wOut T k).length ≤ 2 * (k.2.2.1 - k.2.1) := sorry
theorem wOut_by {k : Tok} (hT : ∀ k, k < n → 0 ≤ T k ∧ T k < 256) (t : tkO T n k) (z : k.1 ≠ 0) : byt (wOut T k) := sorry
theorem spA_ok (hT : ∀ k, k < n → 0 ≤ T k ∧ T k < 256) (o : psO T n σ) (z : σ.1.1 ≠ 0) (e : spA T n σ = .inr σ') : psO T n σ' ∧ σ.1.2.2.1 ≤ σ'.1.2.1 ∧ σ.1.2.1 < σ'.1.2.1 ∧ σ'.2 = σ.2 ++ wOut T σ.1 ∧ lx T n σ.1.2.2.1 = some σ'.1 := sorry
theorem bnd_inr {α β : Type} {x : Flt ⊕ α} {f : α → Flt ⊕ β} {b : β} (e : bnd x f = .inr b) : ∃ a, x = .inr a ∧ f a = .inr b := sorry
theorem bnd_in {α β : Type} {x : Flt ⊕ α} {f : α → Flt ⊕ β} {a : α} (e : x = .inr a) : bnd x f = f a := sorry
def dZ (a i : Nat) : Prop := a = 7761 ∨ (a = 7763 ∨ a = 7764 ∨ a = 7857) ∧ i = 4 ∨ 7765 ≤ a ∧ a ≤ 7774 ∧ 120 ≤ i ∨ 7775 ≤ a ∧ a ≤ 7805 ∧ 2880 ≤ i ∨ a = 7806 ∧ 172800 ≤ i ∨ 7807 ≤ a ∧ a ≤ 7812 ∧ 960 ≤ i ∨ 7813 ≤ a ∧ a ≤ 7818 ∧ 1920 ≤ i ∨ 7819 ≤ a ∧ a ≤ 7825 ∧ 16 ≤ i ∨ 7826 ≤ a ∧ a ≤ 7828 ∧ 128 ≤ i ∨ 7829 ≤ a ∧ a ≤ 7838 ∧ 160 ≤ i ∨ 7839 ≤ a ∧ a ≤ 7841 ∧ 320 ≤ i ∨ 7842 ≤ a ∧ a ≤ 7852 ∧ 16000 ≤ i ∨ 7853 ≤ a ∧ a ≤ 7855 ∨ a = 7856 ∧ 36000 ≤ i ∨ 7858 ≤ a ∧ a ≤ 7860 ∨ a = 7756 ∧ (7 ≤ i ∧ i ≤ 18 ∨ i = 110 ∨ 116 ≤ i ∧ i ≤ 131)
def frSg (μ μ' : ab_M) : Prop := ∀ a i, ¬ dZ a i → μ' a i = μ a i
theorem frSg.refl : frSg μ μ := sorry
theorem frSg.trans (f : frSg μ μ') (g : frSg μ' μ'') : frSg μ μ'' := sorry
theorem frSg.up {b j : Nat} {v : Int} (f : frSg μ μ') (h : dZ b j) : frSg μ (ab_up μ' b j v) := sorry
def frPa (μ μ' : ab_M) : Prop := ∀ a i, a ≠ 7761 → (a ≠ 7856 ∨ i < 36000) → (a ≠ 7857 ∨ i ≠ 4) → (a ≠ 7756 ∨ i < 7 ∨ 18 < i) → μ' a i = μ a i
theorem frPa.refl : frPa μ μ := sorry
theorem frPa.trans (f : frPa μ μ') (g : frPa μ' μ'') : frPa μ μ'' := sorry
theorem dZ_s {i : Nat} : dZ 7761 i := sorry
theorem dZ_n {a : Nat} (h : a = 7763 ∨ a = 7764 ∨ a = 7857) : dZ a 4 := sorry
theorem dZ_t {a i : Nat} (h1 : 7765 ≤ a) (h2 : a ≤ 7774) (h : 120 ≤ i) : dZ a i := sorry
theorem dZ_f {a i : Nat} (h1 : 7775 ≤ a) (h2 : a ≤ 7805) (h : 2880 ≤ i) : dZ a i := sorry
theorem dZ_x {i : Nat} (h : 172800 ≤ i) : dZ 7806 i := sorry
theorem dZ_o {a i : Nat} (h1 : 7807 ≤ a) (h2 : a ≤ 7812) (h : 960 ≤ i) : dZ a i := sorry
theorem dZ_c {a i : Nat} (h1 : 7813 ≤ a) (h2 : a ≤ 7818) (h : 1920 ≤ i) : dZ a i := sorry
theorem dZ_v {a i : Nat} (h1 : 7819 ≤ a) (h2 : a ≤ 7825) (h : 16 ≤ i) : dZ a i := sorry
theorem dZ_l {a i : Nat} (h1 : 7826 ≤ a) (h2 : a ≤ 7828) (h : 128 ≤ i) : dZ a i := sorry
theorem dZ_k {a i : Nat} (h1 : 7829 ≤ a) (h2 : a ≤ 7838) (h : 160 ≤ i) : dZ a i := sorry
theorem dZ_q {a i : Nat} (h1 : 7839 ≤ a) (h2 : a ≤ 7841) (h : 320 ≤ i) : dZ a i := sorry
theorem dZ_d {a i : Nat} (h1 : 7842 ≤ a) (h2 : a ≤ 7852) (h : 16000 ≤ i) : dZ a i := sorry
theorem dZ_e {a i : Nat} (h1 : 7853 ≤ a) (h2 : a ≤ 7855) : dZ a i := sorry
theorem dZ_u {i : Nat} (h : 36000 ≤ i) : dZ 7856 i := sorry
theorem dZ_w {a i : Nat} (h1 : 7858 ≤ a) (h2 : a ≤ 7860) : dZ a i := sorry
theorem dZ_m {i : Nat} (h : 7 ≤ i ∧ i ≤ 18 ∨ i = 110 ∨ 116 ≤ i ∧ i ≤ 131) : dZ 7756 i := sorry
theorem frPa.z (f : frPa μ μ') : frSg μ μ' := sorry
theorem frL.a (f : frL μ μ') : frPa μ μ' := sorry
def tS (μ : ab_M) (T : Nat → Int) (n : Nat) (σ : PS) : Prop := tT μ T n σ.1 ∧ psO T n σ ∧ μ 7857 4 = σ.2.length ∧ tBy μ 7856 36000 σ.2
theorem tS.hT (h : tS μ T n σ) : ∀ k, k < n → 0 ≤ T k ∧ T k < 256 := sorry
def tPz {α : Type} (run : ab_R) (μ : ab_M) (x : Flt ⊕ α) (Q : α → ab_M → Prop) : Prop := (∀ f, x = .inl f → Ft run (frSg μ) f.1 f.2) ∧ ∀ a, x = .inr a → ∃ μ', run = some ((0, 1), μ') ∧ Q a μ'
theorem Ft.mono {run : ab_R} {P P' : ab_M → Prop} {f p : Int} (h : Ft run P f p) (g : ∀ μ, P μ → P' μ) : Ft run P' f p := sorry
theorem tPz.fr {α : Type} {run : ab_R} {x : Flt ⊕ α} {Q : α → ab_M → Prop} (h : tPz run μ x Q) (f : frSg μ0 μ) : tPz run μ0 x Q := sorry
theorem tPz.mono {α : Type} {run : ab_R} {x : Flt ⊕ α} {Q Q' : α → ab_M → Prop} (h : tPz run μ x Q) (g : ∀ a μ', x = .inr a → Q a μ' → Q' a μ') : tPz run μ x Q' := sorry
theorem tPz.seq {α β : Type} {run : ab_R} {x : Flt ⊕ α} {Q : α → ab_M → Prop} {K : ab_M → ab_R} {f : α → Flt ⊕ β} {Q' : β → ab_M → Prop} (h : tPz run μ x Q) (k : ∀ a μ1, x = .inr a → Q a μ1 → frSg μ μ1 ∧ tPz (K μ1) μ1 (f a) Q') : tPz (ab_cal run 0 (fun r1 μ1 => some ((4, r1), μ1)) (fun r1 μ1 => if r1 = 0 then some ((0, 0), μ1) else K μ1)) μ (bnd x f) Q' := sorry
theorem tPz.ret {α : Type} {run : ab_R} {x : Flt ⊕ α} {Q : α → ab_M → Prop} (h : tPz run μ x Q) : tPz (ab_cal run 0 (fun r1 μ1 => some ((4, r1), μ1)) (fun r1 μ1 => if r1 = 0 ∨ r1 = 1 then some ((0, r1), μ1) else none)) μ x Q := sorry
theorem tPz.inl {α : Type} {run : ab_R} {f : Flt} {Q : α → ab_M → Prop} (h : Ft run (frSg μ) f.1 f.2) : tPz run μ (.inl f : Flt ⊕ α) Q := sorry
theorem tPz.inr {α : Type} {run : ab_R} {a : α} {Q : α → ab_M → Prop} (h : ∃ μ', run = some ((0, 1), μ') ∧ Q a μ') : tPz run μ (.inr a : Flt ⊕ α) Q := sorry
theorem tw_out {x : Int} {O : List Int} (h1 : μ 7857 4 = O.length) (h2 : tBy μ 7856 36000 O) (ln : O.length < 9000) : ∃ μ', (ab_run wt (d + 1) 191 0 [(2, 7756), (0, x)] [] μ) = some ((3, 0), μ') ∧ μ' 7857 4 = ((O ++ [x]).length : Int) ∧ tBy μ' 7856 36000 (O ++ [x]) ∧ ∀ a i, (a ≠ 7856 ∨ i < 36000) → (a ≠ 7857 ∨ i ≠ 4) → μ' a i = μ a i := sorry
end Xq
end
section
section Xr
variable {T : Nat → Int} {n : Nat} {σ σ' : PS} {μ μ' μ'' μ0 : ab_M} {d : Nat}
theorem tTk.to {k : Tok} (a2 : tTk μ T k) (f : ∀ a i, (a = 7761 ∨ a = 7756 ∧ i ≤ 18) → μ' a i = μ a i) : tTk μ' T k := sorry
theorem tw_pass42 : ∀ (m p : Nat) (μ : ab_M) (k : Tok) (O : List Int), p + m = k.2.2.1 → tT μ T n k → μ 7857 4 = O.length → tBy μ 7856 36000 O → O.length + m < 8999 → ∃ μ', (ab_run wt (d + 5) 204 42 [(2, 7756), (3, 0), (0, p)] [] μ) = ab_cal (ab_run wt (d + 4) 174 0 [(2, 7756), (3, 0), (3, 0)] [] μ') 0 (fun r1 μ1 => some ((4, r1), μ1)) (fun r1 μ1 => if r1 = 0 ∨ r1 = 1 then some ((0, r1), μ1) else none) ∧ tT μ' T n k ∧ μ' 7857 4 = ((O ++ (slc T p m ++ [32])).length : Int) ∧ tBy μ' 7856 36000 (O ++ (slc T p m ++ [32])) ∧ ∀ a i, (a ≠ 7856 ∨ i < 36000) → (a ≠ 7857 ∨ i ≠ 4) → μ' a i = μ a i := sorry
theorem tw_pass13 {k : Tok} (h : tT μ T n k) : ∀ (m p : Nat), p + m + 1 = k.2.2.1 → (ab_run wt (d + 5) 204 13 [(2, 7756), (0, p), (3, 0)] [] μ) = (ab_run wt (d + 5) 204 42 [(2, 7756), (3, 0), (0, (((zFr T m p : Nat) : Int)))] [] μ) := sorry
theorem tw_pass (h : tS μ T n σ) (nz : σ.1.1 ≠ 0) : tPz (ab_run wt (d + 5) 204 0 [(2, 7756), (3, 0), (3, 0)] [] μ) μ (spA T n σ) (fun σ' μ' => tS μ' T n σ' ∧ frPa μ μ') := sorry
theorem tw_cantZ (h : tS μ T n σ) : Ft (ab_run wt (d + 2) 21 0 [(2, 7756)] [] μ) (frSg μ) 2 σ.1.2.1 := sorry
theorem tw_wrongZ {x : Int} (h : tS μ T n σ) : Ft (ab_run wt (d + 1) 340 0 [(2, 7756), (0, x), (0, (σ.1.2.1))] [] μ) (frSg μ) x σ.1.2.1 := sorry
theorem Ft.ret {run : ab_R} {P : ab_M → Prop} {f p : Int} (h : Ft run P f p) : Ft (ab_cal run 0 (fun r1 μ1 => some ((4, r1), μ1)) (fun r1 μ1 => if r1 = 0 ∨ r1 = 1 then some ((0, r1), μ1) else none)) P f p := sorry
theorem tw_passSign {c : Int} (h : tS μ T n σ) (hc : c < 256) : tPz (ab_run wt (d + 6) 205 0 [(2, 7756), (0, c)] [] μ) μ (spG T n c σ) (fun σ' μ' => tS μ' T n σ' ∧ frPa μ μ') := sorry
theorem tS.to (h : tS μ T n σ) (f : ∀ a i, (a = 7760 ∨ a = 7761 ∨ a = 7856 ∨ a = 7857 ∨ a = 7756 ∧ i ≤ 18) → μ' a i = μ a i) : tS μ' T n σ := sorry
end Xr
end
section
section Xs
variable {T : Nat → Int} {n : Nat} {σ σ' : PS} {μ μ' μ'' μ0 ν ν' : ab_M} {d : Nat}
theorem bnd_r {α β : Type} {f : α → Flt ⊕ β} {a : α} : bnd (.inr a) f = f a := sorry
theorem bnd_l {α β : Type} {f : α → Flt ⊕ β} {e : Flt} : bnd (.inl e : Flt ⊕ α) f = .inl e := sorry
theorem bnd_bnd {α β γ : Type} {x : Flt ⊕ α} {f : α → Flt ⊕ β} {g : β → Flt ⊕ γ} : bnd (bnd x f) g = bnd x fun a => bnd (f a) g := sorry
def tG (μ : ab_M) (T : Nat → Int) (n : Nat) (σ : PS) (ν : ab_M) : Prop := tS μ T n σ ∧ frPa ν μ
def tbl (a i : Nat) : Prop := a ≠ 7760 ∧ a ≠ 7761 ∧ a ≠ 7856 ∧ a ≠ 7857 ∧ (a ≠ 7756 ∨ 18 < i)
theorem tG.up {b j : Nat} {v : Int} (h : tG μ T n σ ν) (hb : tbl b j) : tG (ab_up μ b j v) T n σ (ab_up ν b j v) := sorry
theorem tG.at {b j : Nat} (h : tG μ T n σ ν) (hb : tbl b j) : μ b j = ν b j := sorry
theorem tG.hT (h : tG μ T n σ ν) : ∀ k, k < n → 0 ≤ T k ∧ T k < 256 := sorry
theorem tG.ok (h : tG μ T n σ ν) : psO T n σ := sorry
def tGz {α : Type} (run : ab_R) (ν : ab_M) (x : Flt ⊕ α) (Q : α → ab_M → Prop) : Prop := (∀ f, x = .inl f → Ft run (frSg ν) f.1 f.2) ∧ ∀ a, x = .inr a → ∃ μ', run = some ((0, 1), μ') ∧ Q a μ'
theorem tGz.fr {α : Type} {run : ab_R} {x : Flt ⊕ α} {Q : α → ab_M → Prop} (h : tGz run ν x Q) (f : frSg ν' ν) : tGz run ν' x Q := sorry
theorem tGz.seq {α β : Type} {run : ab_R} {x : Flt ⊕ α} {Q : α → ab_M → Prop} {K : ab_M → ab_R} {f : α → Flt ⊕ β} {Q' : β → ab_M → Prop} (h : tGz run ν x Q) (k : ∀ a μ1, x = .inr a → Q a μ1 → tGz (K μ1) ν (f a) Q') : tGz (ab_cal run 0 (fun r1 μ1 => some ((4, r1), μ1)) (fun r1 μ1 => if r1 = 0 then some ((0, 0), μ1) else K μ1)) ν (bnd x f) Q' := sorry
theorem tGz.ret {α : Type} {run : ab_R} {x : Flt ⊕ α} {Q : α → ab_M → Prop} (h : tGz run ν x Q) : tGz (ab_cal run 0 (fun r1 μ1 => some ((4, r1), μ1)) (fun r1 μ1 => if r1 = 0 ∨ r1 = 1 then some ((0, r1), μ1) else none)) ν x Q := sorry
theorem tGz.inl {α : Type} {run : ab_R} {f : Flt} {Q : α → ab_M → Prop} (h : Ft run (frSg ν) f.1 f.2) : tGz run ν (.inl f : Flt ⊕ α) Q := sorry
theorem tGz.inr {α : Type} {run : ab_R} {a : α} {Q : α → ab_M → Prop} (h : ∃ μ', run = some ((0, 1), μ') ∧ Q a μ') : tGz run ν (.inr a : Flt ⊕ α) Q := sorry
theorem tGz.map {α β : Type} {run : ab_R} {x : Flt ⊕ α} {Q : α → ab_M → Prop} {Q' : β → ab_M → Prop} (h : tGz run ν x Q) (g : α → β) (k : ∀ a μ1, x = .inr a → Q a μ1 → Q' (g a) μ1) : tGz run ν (bnd x fun a => .inr (g a)) Q' := sorry
theorem tg_pass (h : tG μ T n σ ν) (nz : σ.1.1 ≠ 0) : tGz (ab_run wt (d + 5) 204 0 [(2, 7756), (3, 0), (3, 0)] [] μ) ν (spA T n σ) (fun σ' μ' => tG μ' T n σ' ν) := sorry
theorem tg_sign {c : Int} (h : tG μ T n σ ν) (hc : c < 256) : tGz (ab_run wt (d + 6) 205 0 [(2, 7756), (0, c)] [] μ) ν (spG T n c σ) (fun σ' μ' => tG μ' T n σ' ν) := sorry
theorem tg_cant {α : Type} {Q : α → ab_M → Prop} (h : tG μ T n σ ν) : tGz (ab_cal (ab_run wt (d + 2) 21 0 [(2, 7756)] [] μ) 0 (fun r1 μ1 => some ((4, r1), μ1)) (fun r1 μ1 => if r1 = 0 ∨ r1 = 1 then some ((0, r1), μ1) else none)) ν (.inl (2, (σ.1.2.1 : Int)) : Flt ⊕ α) Q := sorry
theorem tg_wrong {α : Type} {Q : α → ab_M → Prop} {x : Int} (h : tG μ T n σ ν) : tGz (ab_cal (ab_run wt (d + 1) 340 0 [(2, 7756), (0, x), (0, (μ 7756 9))] [] μ) 0 (fun r1 μ1 => some ((4, r1), μ1)) (fun r1 μ1 => if r1 = 0 ∨ r1 = 1 then some ((0, r1), μ1) else none)) ν (.inl (x, (σ.1.2.1 : Int)) : Flt ⊕ α) Q := sorry
def pgS (T : Nat → Int) (n : Nat) (σ σ' : PS) : Prop := psO T n σ' ∧ σ.1.2.1 < σ'.1.2.1
theorem spA_pg (hT : ∀ k, k < n → 0 ≤ T k ∧ T k < 256) (o : psO T n σ) (z : σ.1.1 ≠ 0) (e : spA T n σ = .inr σ') : pgS T n σ σ' := sorry
theorem spG_pg {c : Int} (hT : ∀ k, k < n → 0 ≤ T k ∧ T k < 256) (o : psO T n σ) (e : spG T n c σ = .inr σ') : pgS T n σ σ' := sorry
theorem spN_pg {b : Bool} {p : Nm × PS} (hT : ∀ k, k < n → 0 ≤ T k ∧ T k < 256) (o : psO T n σ) (e : spN T n b σ = .inr p) : pgS T n σ p.2 ∧ σ.1.1 = 1 ∧ b = false ∧ p.1 = (tkN T σ.1, σ.1.2.1, σ.2.length) ∧ spA T n σ = .inr p.2 := sorry
theorem spU0_pg {p : (Int × Nat) × PS} (hT : ∀ k, k < n → 0 ≤ T k ∧ T k < 256) (o : psO T n σ) (e : spU0 T n σ = .inr p) : pgS T n σ p.2 ∧ σ.1.1 = 3 ∧ p.1 = (σ.1.2.2.2.1, σ.1.2.1) ∧ spA T n σ = .inr p.2 := sorry
theorem pgS.trans {σ''  : PS} (a : pgS T n σ σ') (b : pgS T n σ' σ'') : pgS T n σ σ'' := sorry
theorem spI_pg {p : (Int × Nat) × PS} (hT : ∀ k, k < n → 0 ≤ T k ∧ T k < 256) (o : psO T n σ) (e : spI T n σ = .inr p) : pgS T n σ p.2 := sorry
end Xs
end
section
section Xt
variable {T : Nat → Int} {n : Nat} {σ σ' : PS} {μ μ' μ'' μ0 ν ν' : ab_M} {d : Nat}
abbrev cFr (v : Int) : Prop := v < -32768 ∨ 32767 < v
def wrCn (ν : ab_M) (t j : Nat) (x : Cn) : ab_M := ab_up (ab_up (ab_up (ab_up (ab_up (ab_up (ab_up ν 7769 t ((j + 1 : Nat) : Int)) 7813 (16 * t + j) (nmk x.1.1 0 8)) 7814 (16 * t + j) (nmk x.1.1 8 8)) 7815 (16 * t + j) (x.1.2.1 : Int)) 7817 (16 * t + j) (x.2.2 : Int)) 7818 (16 * t + j) (if cFr x.2.1 then 1 else 0)) 7816 (16 * t + j) (if cFr x.2.1 then 0 else x.2.1)
def wrCns (t : Nat) : ab_M → Nat → List Cn → ab_M
  | ν, _, [] => ν
  | ν, j, x :: L => wrCns t (wrCn ν t j x) (j + 1) L
theorem dzC {t j a : Nat} (ht : 120 ≤ t) (h1 : 7813 ≤ a) (h2 : a ≤ 7818) : dZ a (16 * t + j) := sorry
theorem dzT {t a : Nat} (ht : 120 ≤ t) (h1 : 7765 ≤ a) (h2 : a ≤ 7774) : dZ a t := sorry
theorem wrCn_z {t j : Nat} {x : Cn} (ht : 120 ≤ t) : frSg ν (wrCn ν t j x) := sorry
theorem wrCns_z {t : Nat} (ht : 120 ≤ t) : ∀ (L : List Cn) (ν : ab_M) (j : Nat), frSg ν (wrCns t ν j L) := sorry
theorem tw_en180 {c : Nat} {b v : Int} (hc : c < 2400) (hb : b = 0 ∨ b = 1) (k3 : μ 7756 8 = 2) (hn : 0 ≤ μ 7756 11 ∧ μ 7756 11 < 9223372036854775808) (hv : v = if b = 0 then μ 7756 11 else -(μ 7756 11)) : (ab_run wt (d + 7) 47 180 [(2, 7756), (3, 0), (0, c), (0, b)] [] μ) = (ab_run wt (d + 7) 47 266 [(2, 7756), (3, 0), (3, 0), (3, 0)] [(0, ((if cFr v then 0 else v))), (0, c), (2, 7816)] (ab_up μ 7818 c (if cFr v then 1 else 0))) := sorry
theorem tg_en34 {t : Nat} (t1 : 120 ≤ t) (t2 : t < 150) : ∀ (f : Nat) (μ : ab_M) (σ : PS) (ν : ab_M) (j : Nat), n < σ.1.2.1 + f → tG μ T n σ ν → ν 7756 116 = t → ν 7769 t = j → j ≤ 16 →
    tGz (ab_run wt (d + 7) 47 34 [(2, 7756), (3, 0), (3, 0), (3, 0)] [] μ) ν (bnd (spConsts T n f j σ) fun q => bnd (spA T n q.2) fun σ5 => .inr (q.1, σ5)) (fun p μ' => tG μ' T n p.2 (ab_up (wrCns t ν j p.1) 7774 t (p.2.2.length : Int)) ∧ j + p.1.length ≤ 16) := sorry
end Xt
end
section
section Xu
variable {T : Nat → Int} {n : Nat} {σ σ' : PS} {μ μ' μ'' μ0 ν ν' : ab_M} {d : Nat}
def wrTy (ν : ab_M) (k : Nat) (r : Int) (nm : Nm) (b : Nat) : ab_M := ab_up (ab_up (ab_up (ab_up (ab_up (ab_up (ab_up (ab_up (ab_up ν 7756 116 ((120 + k : Nat) : Int)) 7763 4 ((k + 1 : Nat) : Int)) 7765 (120 + k) (nmk nm.1 0 8)) 7766 (120 + k) (nmk nm.1 8 8)) 7767 (120 + k) (nm.2.1 : Int)) 7768 (120 + k) r) 7769 (120 + k) 0) 7770 (120 + k) 0) 7773 (120 + k) (b : Int)
theorem wrTy_z {k b : Nat} {r : Int} {nm : Nm} : frSg ν (wrTy ν k r nm b) := sorry
theorem tg_typeName {k b : Nat} {r : Int} (h : tG μ T n σ ν) (hk : ν 7763 4 = k) (k30 : k ≤ 30) (hr : r = 0 ∨ r = 1) : tGz (ab_run wt (d + 6) 310 0 [(2, 7756), (0, r), (0, b)] [] μ) ν (spN T n (decide (k = 30)) σ) (fun p μ' => tG μ' T n p.2 (wrTy ν k r p.1 b) ∧ k < 30) := sorry
def wrEn (ν : ab_M) (k : Nat) (x : Td) : ab_M := ab_up (wrCns (120 + k) (wrTy ν k 0 x.2.1 x.2.2.1.1) 0 x.2.2.2.1) 7774 (120 + k) (x.2.2.1.2 : Int)
theorem tg_enum {k : Nat} (h : tG μ T n σ ν) (nz : σ.1.1 ≠ 0) (hk : ν 7763 4 = k) (k30 : k ≤ 30) : tGz (ab_run wt (d + 7) 47 0 [(2, 7756), (3, 0), (3, 0), (3, 0)] [] μ) ν (bnd (spA T n σ) fun σ1 => spEnum T n k σ.2.length σ1) (fun p μ' => tG μ' T n p.2 (wrEn ν k p.1) ∧ k < 30 ∧ p.1.1 = 0 ∧ p.1.2.2.2.1.length ≤ 16 ∧ p.1.2.2.2.2 = []) := sorry
theorem tg_simple (h : tG μ T n σ ν) : tGz (ab_run wt (d + 6) 287 0 [(2, 7756)] [] μ) ν (spT T n σ) (fun p μ' => tG μ' T n p.2 (ab_up ν 7756 118 p.1.1)) := sorry
def tVf (ν : ab_M) (f : Nat) (v : Vl) : Prop := ν 7802 f = v.2.2.2 ∧ ν 7803 f = v.1 ∧ (v.1 = 0 → ν 7785 f = v.2.1) ∧ (v.1 = 3 → ν 7787 f = v.2.2.1.length ∧ v.2.2.1.length ≤ 60 ∧ tBy ν 7806 (60 * f) v.2.2.1) ∧ (v.1 = 4 → tNm (ν 7804 f) (ν 7805 f) v.2.2.1)
def frVl (f : Nat) (ν ν' : ab_M) : Prop := ∀ a i, (a < 7802 ∨ 7805 < a ∨ i ≠ f) → (a ≠ 7785 ∨ i ≠ f) → (a ≠ 7787 ∨ i ≠ f) → (a ≠ 7806 ∨ i < 60 * f ∨ 60 * f + 60 ≤ i) → ν' a i = ν a i
theorem frVl.z {f : Nat} (hf : 2880 ≤ f) (g : frVl f ν ν') : frSg ν ν' := sorry
theorem frVl.trans {f : Nat} {ν'' : ab_M} (g : frVl f ν ν') (g' : frVl f ν' ν'') : frVl f ν ν'' := sorry
theorem tg_v155 {f : Nat} (hf : f < 3600) (k4 : σ.1.1 = 4) : ∀ (m k : Nat) (μ ν : ab_M), k + m = σ.1.2.2.2.2.length → tG μ T n σ ν → ∃ μ' ν', (ab_run wt (d + 6) 317 155 [(2, 7756), (0, f), (3, 0), (0, k)] [] μ) = ab_cal (ab_run wt (d + 5) 204 0 [(2, 7756), (3, 0), (3, 0)] [] μ') 0 (fun r1 μ1 => some ((4, r1), μ1)) (fun r1 μ1 => if r1 = 0 ∨ r1 = 1 then some ((0, r1), μ1) else none) ∧ tG μ' T n σ ν' ∧ (∀ a i, (a ≠ 7806 ∨ i < 60 * f + k ∨ 60 * f + 60 ≤ i) → ν' a i = ν a i) ∧ ∀ j x, k ≤ j → σ.1.2.2.2.2[j]? = some x → ν' 7806 (60 * f + j) = x := sorry
theorem tg_value {f : Nat} (f1 : 2880 ≤ f) (hf : f < 3600) (h : tG μ T n σ ν) : tGz (ab_run wt (d + 6) 317 0 [(2, 7756), (0, f), (3, 0), (3, 0)] [] μ) ν (spV T n σ) (fun p μ' => ∃ ν', tG μ' T n p.2 ν' ∧ frVl f ν ν' ∧ tVf ν' f p.1) := sorry
end Xu
end
section
section Xv
variable {T : Nat → Int} {n : Nat} {σ σ' : PS} {μ μ' μ'' μ0 ν ν' : ab_M} {d : Nat}
def frFe (t f : Nat) (ν ν' : ab_M) : Prop := ∀ a i, (a < 7775 ∨ 7805 < a ∨ i ≠ f) → (a ≠ 7806 ∨ i < 60 * f ∨ 60 * f + 60 ≤ i) → (a ≠ 7769 ∨ i ≠ t) → (a ≠ 7756 ∨ i ≠ 118) → ν' a i = ν a i
theorem frFe.z {t f : Nat} (ht : 120 ≤ t) (hf : 2880 ≤ f) (g : frFe t f ν ν') : frSg ν ν' := sorry
def tMp (ν : ab_M) (f : Nat) : Option (Nat × Tr) → Prop
  | none => ν 7798 f = -2 ∧ ν 7782 f = -2
  | some m => ν 7798 f = m.1 ∧ ν 7782 f = m.2.1 ∧ ν 7799 f = m.2.2.2 ∧ (m.2.1 = 99 → tNm (ν 7800 f) (ν 7801 f) m.2.2.1)
def tVo (ν : ab_M) (f : Nat) : Option Vl → Prop
  | none => ν 7803 f = -2
  | some v => tVf ν f v
def moM (m : Int) : Option (Nat × Tr) → Int
  | none => m
  | some _ => 3
def tFe (ν : ab_M) (f : Nat) (x : Fe) : Prop := (tNm (ν 7775 f) (ν 7776 f) x.2.2.2.2.1.1 ∧ ν 7777 f = x.2.2.2.2.1.2.1) ∧ (ν 7779 f = moM x.2.1.1 x.2.2.1 ∧ ν 7797 f = if 0 < x.2.1.1 then (x.2.1.2 : Int) else -2) ∧ tMp ν f x.2.2.1 ∧ (ν 7780 f = x.2.2.2.1.1 ∧ ν 7792 f = x.2.2.2.1.2.2 ∧ (x.2.2.2.1.1 = 99 → tNm (ν 7793 f) (ν 7794 f) x.2.2.2.1.2.1)) ∧ ν 7783 f = (if x.1 < 0 then -2 else x.1) ∧ (ν 7796 f = x.2.2.2.2.2.1.1 ∧ ν 7795 f = x.2.2.2.2.2.1.2) ∧ tVo ν f x.2.2.2.2.2.2
theorem spEq_pg {p : Option Vl × PS} (hT : ∀ k, k < n → 0 ≤ T k ∧ T k < 256) (o : psO T n σ) (e : spEq T n σ = .inr p) : psO T n p.2 ∧ σ.1.2.1 ≤ p.2.1.2.1 := sorry
theorem tg_f316 {t f : Nat} {x1 x3 x4 x5 x6 x7 x9 x11 x12 x14 x16 s0 : Int} (ht : 120 ≤ t) (f1 : 2880 ≤ f) (hf : f < 3600) (h : tG μ T n σ ν) (k1 : σ.1.1 = 1) : tGz (ab_run wt (d + 7) 58 316 [(2, 7756), (0, x1), (3, 0), (0, x3), (0, x4), (0, x5), (0, x6), (1, x7), (3, 0), (1, x9), (3, 0), (0, x11), (1, x12), (3, 0), (1, x14), (3, 0), (0, x16), (0, f)] [(0, s0), (0, f), (2, 7779)] μ) ν (bnd (spA T n σ) fun σ4 => bnd (spG T n 64 σ4) fun σ5 => bnd (spU0 T n σ5) fun q => bnd (spEq T n q.2) fun v => bnd (spG T n 59 v.2) fun σ8 => .inr ((q.1, v.1), σ8))
    (fun p μ' => ∃ ν', tG μ' T n p.2 ν' ∧ (∀ a i, (a < 7779 ∨ 7805 < a ∨ i ≠ f) → (a ≠ 7806 ∨ i < 60 * f ∨ 60 * f + 60 ≤ i) → ν' a i = ν a i) ∧ (ν' 7779 f = s0 ∧ ν' 7797 f = x3 ∧ ν' 7798 f = x4 ∧ ν' 7782 f = x5 ∧ ν' 7799 f = x6 ∧ ν' 7800 f = x7 ∧ ν' 7801 f = x9 ∧ ν' 7780 f = x16 ∧ ν' 7792 f = x11 ∧ ν' 7793 f = x12 ∧ ν' 7794 f = x14 ∧ ν' 7783 f = x1) ∧ (ν' 7796 f = p.1.1.1 ∧ ν' 7795 f = p.1.1.2) ∧ tVo ν' f p.1.2) := sorry
end Xv
end
section
section Xw
variable {T : Nat → Int} {n : Nat} {σ σ' : PS} {μ μ' μ'' μ0 ν ν' : ab_M} {d : Nat}
theorem spT_pg {p : Tr × PS} (hT : ∀ k, k < n → 0 ≤ T k ∧ T k < 256) (o : psO T n σ) (e : spT T n σ = .inr p) : pgS T n σ p.2 ∧ p.1.2.2 = σ.1.2.1 ∧ (p.1.1 = 99 → σ.1.1 = 1 ∧ p.1.2.1 = tkN T σ.1) := sorry
theorem tg_f198 {t j : Nat} {x1 x2 x3 x4 x5 x6 x7 x9 x11 x12 x14 x16 : Int} (t1 : 120 ≤ t) (t2 : t < 150) (h : tG μ T n σ ν) (ht : ν 7756 116 = t) (hj : ν 7769 t = j) (j24 : j ≤ 24) : tGz (ab_run wt (d + 7) 58 198 [(2, 7756), (0, x1), (0, x2), (0, x3), (0, x4), (0, x5), (0, x6), (1, x7), (3, 0), (1, x9), (3, 0), (0, x11), (1, x12), (3, 0), (1, x14), (3, 0), (0, x16), (3, 0)] [] μ) ν (bnd (spN T n (decide (j = 24)) σ) fun p => bnd (spG T n 64 p.2) fun σ5 => bnd (spU0 T n σ5) fun q => bnd (spEq T n q.2) fun v => bnd (spG T n 59 v.2) fun σ8 => .inr ((p.1, q.1, v.1), σ8))
    (fun p μ' => ∃ ν', tG μ' T n p.2 ν' ∧ frFe t (24 * t + j) ν ν' ∧ j < 24 ∧ ν' 7769 t = ((j + 1 : Nat) : Int) ∧ (tNm (ν' 7775 (24 * t + j)) (ν' 7776 (24 * t + j)) p.1.1.1 ∧ ν' 7777 (24 * t + j) = p.1.1.2.1) ∧ (ν' 7779 (24 * t + j) = (if x4 < 0 then x2 else 3) ∧ ν' 7797 (24 * t + j) = x3 ∧ ν' 7798 (24 * t + j) = x4 ∧ ν' 7782 (24 * t + j) = x5 ∧ ν' 7799 (24 * t + j) = x6 ∧ ν' 7800 (24 * t + j) = x7 ∧ ν' 7801 (24 * t + j) = x9 ∧ ν' 7780 (24 * t + j) = x16 ∧ ν' 7792 (24 * t + j) = x11 ∧ ν' 7793 (24 * t + j) = x12 ∧ ν' 7794 (24 * t + j) = x14 ∧ ν' 7783 (24 * t + j) = x1) ∧ (ν' 7796 (24 * t + j) = p.1.2.1.1 ∧ ν' 7795 (24 * t + j) = p.1.2.1.2) ∧ tVo ν' (24 * t + j) p.1.2.2) := sorry
theorem tg_field {t j : Nat} {one x1 : Int} (t1 : 120 ≤ t) (t2 : t < 150) (h : tG μ T n σ ν) (ht : ν 7756 116 = t) (hj : ν 7769 t = j) (j24 : j ≤ 24) (hx : x1 = if one < 0 then -2 else one) : tGz (ab_run wt (d + 7) 58 0 [(2, 7756), (0, x1), (3, 0), (3, 0), (3, 0), (3, 0), (3, 0), (3, 0), (3, 0), (3, 0), (3, 0), (3, 0), (3, 0), (3, 0), (3, 0), (3, 0), (3, 0), (3, 0)] [] μ) ν (spFl T n one j σ) (fun p μ' => ∃ ν', tG μ' T n p.2 ν' ∧ frFe t (24 * t + j) ν ν' ∧ j < 24 ∧ ν' 7769 t = ((j + 1 : Nat) : Int) ∧ tFe ν' (24 * t + j) p.1) := sorry
end Xw
end
section
section Xx
variable {T : Nat → Int} {n : Nat} {σ σ' : PS} {μ μ' μ'' μ0 ν ν' ν'' : ab_M} {d : Nat}
def tyI (a i : Nat) : Nat := if a ≤ 7774 then i else if a ≤ 7805 then i / 24 else if a = 7806 then i / 1440 else if a ≤ 7812 then i / 8 else i / 16
def evF (E : List Ev) : List Fe := E.filterMap fun x => match x with
  | .inr (.inr f) => some f
  | _ => none
def evO (E : List Ev) : List Nm := E.filterMap fun x => match x with
  | .inr (.inl o) => some o
  | _ => none
def evK (E : List Ev) : List (Int × Nat) := E.filterMap fun x => match x with
  | .inl k => some k
  | _ => none
theorem evF_app {E E' : List Ev} : evF (E ++ E') = evF E ++ evF E' := sorry
theorem evO_app {E E' : List Ev} : evO (E ++ E') = evO E ++ evO E' := sorry
theorem evK_app {E E' : List Ev} : evK (E ++ E') = evK E ++ evK E' := sorry
theorem ev_k (L : List (Int × Nat)) : evF (L.map Sum.inl) = [] ∧ evO (L.map Sum.inl) = [] ∧ evK (L.map Sum.inl) = L := sorry
theorem ev_f (L : List Fe) : evF (L.map fun x => Sum.inr (Sum.inr x)) = L ∧ evO (L.map fun x => Sum.inr (Sum.inr x)) = [] ∧ evK (L.map fun x => Sum.inr (Sum.inr x)) = [] := sorry
theorem tVf.to {f : Nat} {v : Vl} (h : tVf ν f v) (g : ∀ a, 7775 ≤ a → a ≤ 7805 → ν' a f = ν a f) (g2 : ∀ i, 60 * f ≤ i → i < 60 * f + 60 → ν' 7806 i = ν 7806 i) : tVf ν' f v := sorry
theorem tFe.to {f : Nat} {x : Fe} (h : tFe ν f x) (g : ∀ a, 7775 ≤ a → a ≤ 7805 → ν' a f = ν a f) (g2 : ∀ i, 60 * f ≤ i → i < 60 * f + 60 → ν' 7806 i = ν 7806 i) : tFe ν' f x := sorry
def tOn (ν : ab_M) (o : Nat) (x : Nm) : Prop := tNm (ν 7807 o) (ν 7808 o) x.1 ∧ ν 7809 o = x.2.1
def tRb (ν : ab_M) (t : Nat) (E : List Ev) : Prop := (ν 7769 t = (evF E).length ∧ (evF E).length ≤ 24) ∧ (ν 7770 t = (evO E).length ∧ (evO E).length ≤ 8) ∧ (∀ (j : Nat) (x : Fe), (evF E)[j]? = some x → tFe ν (24 * t + j) x) ∧ ∀ (o : Nat) (x : Nm), (evO E)[o]? = some x → tOn ν (8 * t + o) x
def tKq (ν : ab_M) (K : List (Nat × Int × Nat)) : Prop := ν 7756 110 = K.length ∧ ∀ (i : Nat) (x : Nat × Int × Nat), K[i]? = some x → ν 7853 i = x.1 ∧ ν 7854 i = x.2.1 ∧ ν 7855 i = x.2.2
def frRc (t : Nat) (ν ν' : ab_M) : Prop := ∀ a i, (a < 7775 ∨ 7812 < a ∨ tyI a i ≠ t) → (a ≠ 7769 ∨ i ≠ t) → (a ≠ 7770 ∨ i ≠ t) → (a < 7853 ∨ 7855 < a) → (a ≠ 7756 ∨ i ≠ 118 ∧ i ≠ 110) → ν' a i = ν a i
theorem frRc.refl {t : Nat} : frRc t ν ν := sorry
theorem frRc.trans {t : Nat} (f : frRc t ν ν') (g : frRc t ν' ν'') : frRc t ν ν'' := sorry
theorem tyI_f {a i : Nat} (h1 : 7775 ≤ a) (h2 : a ≤ 7805) : tyI a i = i / 24 := sorry
theorem tyI_x {i : Nat} : tyI 7806 i = i / 1440 := sorry
theorem tyI_o {a i : Nat} (h1 : 7807 ≤ a) (h2 : a ≤ 7812) : tyI a i = i / 8 := sorry
theorem tyI_t {a i : Nat} (h : a ≤ 7774) : tyI a i = i := sorry
theorem tyI_c {a i : Nat} (h : 7813 ≤ a) : tyI a i = i / 16 := sorry
theorem frFe.rc {t j : Nat} (hj : j < 24) (f : frFe t (24 * t + j) ν ν') : frRc t ν ν' := sorry
theorem frRc.z {t : Nat} (ht : 120 ≤ t) (f : frRc t ν ν') : frSg ν ν' := sorry
theorem tRb.fld {t : Nat} {E : List Ev} {x : Fe} (r : tRb ν t E) (l : (evF E).length < 24) (f : frFe t (24 * t + (evF E).length) ν ν') (hc : ν' 7769 t = (((evF E).length + 1 : Nat) : Int)) (hx : tFe ν' (24 * t + (evF E).length) x) : tRb ν' t (E ++ [Sum.inr (Sum.inr x)]) := sorry
theorem tKq.fld {t f : Nat} {K : List (Nat × Int × Nat)} (k : tKq ν K) (g : frFe t f ν ν') : tKq ν' K := sorry
def frKp (ν ν' : ab_M) : Prop := ∀ a i, (a < 7853 ∨ 7855 < a) → (a ≠ 7756 ∨ i ≠ 110) → ν' a i = ν a i
theorem frKp.z (f : frKp ν ν') : frSg ν ν' := sorry
theorem frKp.rc {t : Nat} (f : frKp ν ν') : frRc t ν ν' := sorry
theorem tRb.kp {t : Nat} {E : List Ev} (r : tRb ν t E) (f : frKp ν ν') : tRb ν' t E := sorry
theorem tg_keep {t : Nat} : ∀ (f : Nat) (μ : ab_M) (σ : PS) (ν : ab_M) (K : List (Nat × Int × Nat)), n < σ.1.2.1 + f → tG μ T n σ ν → ν 7756 116 = t → tKq ν K → 2 * K.length ≤ σ.1.2.1 →
    tGz (ab_run wt (d + 7) 130 11 [(2, 7756), (0, 1)] [] μ) ν (spKeeps T n f σ) (fun p μ' => ∃ ν', tG μ' T n p.2 ν' ∧ tKq ν' (K ++ p.1.map fun x => (t, x)) ∧ frKp ν ν' ∧ 2 * (K.length + p.1.length) ≤ p.2.1.2.1) := sorry
end Xx
end
section
section Xy
variable {T : Nat → Int} {n : Nat} {σ σ' : PS} {μ μ' μ'' μ0 ν ν' ν'' : ab_M} {d : Nat}
theorem spFl_pg {one : Int} {nf : Nat} {p : Fe × PS} (hT : ∀ k, k < n → 0 ≤ T k ∧ T k < 256) (o : psO T n σ) (e : spFl T n one nf σ = .inr p) : pgS T n σ p.2 := sorry
theorem spKeeps_pg (hT : ∀ k, k < n → 0 ≤ T k ∧ T k < 256) : ∀ (f : Nat) (σ : PS) (p : List (Int × Nat) × PS), psO T n σ → spKeeps T n f σ = .inr p → pgS T n σ p.2 := sorry
theorem frRc.ty {t : Nat} (f : frRc t ν ν') : ν' 7756 116 = ν 7756 116 := sorry
theorem tg_o141 {t : Nat} {one : Nat} (t1 : 120 ≤ t) (t2 : t < 150) : ∀ (f : Nat) (μ : ab_M) (σ : PS) (ν : ab_M) (E : List Ev) (K : List (Nat × Int × Nat)), n < σ.1.2.1 + f → tG μ T n σ ν → ν 7756 116 = t → tRb ν t E → tKq ν K →
    tGz (ab_run wt (d + 8) 184 141 [(2, 7756), (0, one)] [] μ) ν (spOF T n (one : Int) f (evF E).length σ) (fun p μ' => ∃ ν', tG μ' T n p.2 ν' ∧ tRb ν' t (E ++ p.1.map fun x => Sum.inr (Sum.inr x)) ∧ tKq ν' K ∧ frRc t ν ν' ∧ σ.1.2.1 ≤ p.2.1.2.1) := sorry
theorem tg_r34 {t : Nat} (t1 : 120 ≤ t) (t2 : t < 150) : ∀ (f : Nat) (μ : ab_M) (σ : PS) (ν : ab_M) (E : List Ev) (K : List (Nat × Int × Nat)), n < σ.1.2.1 + f → tG μ T n σ ν → ν 7756 116 = t → tRb ν t E → tKq ν K → 2 * K.length ≤ σ.1.2.1 →
    tGz (ab_run wt (d + 9) 269 34 [(2, 7756), (3, 0)] [] μ) ν (spBody T n f (evO E).length (evF E).length σ) (fun p μ' => ∃ ν', tG μ' T n p.2 ν' ∧ tRb ν' t (E ++ p.1) ∧ tKq ν' (K ++ (evK p.1).map fun x => (t, x)) ∧ 2 * (K.length + (evK p.1).length) ≤ p.2.1.2.1 ∧ ν' 7774 t = p.2.2.length ∧ ∃ ν1, frRc t ν ν1 ∧ ∀ a i, (a ≠ 7774 ∨ i ≠ t) → ν' a i = ν1 a i) := sorry
end Xy
end
section
section Xz
variable {T : Nat → Int} {n : Nat} {σ σ' : PS} {μ μ' μ'' μ0 ν ν' ν'' : ab_M} {d : Nat} {c cnt : Nat} {W P : List Int} {out : List Nd} {cp : Nat → Int}
def twOp (x : Int) : Int := if 256 ≤ x ∧ x < 400 then x + 44 else x
def spc (w : Int) : Int := if 300 ≤ w ∧ w < 400 then w - 44 else w
def rk (w : Int) : Int := if w = 300 ∨ w = 301 ∨ w = 302 ∨ w = 303 ∨ w = 60 ∨ w = 62 then 1 else if w = 43 ∨ w = 45 then 2 else if w = 42 ∨ w = 47 ∨ w = 37 then 3 else 0
def opn (W : List Int) : Nat := (W.filter fun w => w == 400 || w == 401 || w == 402).length
def brk (W : List Int) : Nat := (W.filter fun w => w == 402).length
def pnd (W : List Int) : Nat := (W.filter fun w => w != 402).length
def rkT (W : List Int) : Int := match W.getLast? with
  | none => 0
  | some w => rk w
theorem rkT_app {w : Int} : rkT (W ++ [w]) = rk w := sorry
theorem opn_app {A B : List Int} : opn (A ++ B) = opn A + opn B := sorry
theorem brk_app {A B : List Int} : brk (A ++ B) = brk A + brk B := sorry
theorem pnd_app {A B : List Int} : pnd (A ++ B) = pnd A + pnd B := sorry
theorem rk_no {w : Int} (h : 1 ≤ rk w) : w ≠ 400 ∧ w ≠ 401 ∧ w ≠ 402 := sorry
theorem opn_rk {w : Int} (h : 1 ≤ rk w) : opn [w] = 0 ∧ brk [w] = 0 ∧ pnd [w] = 1 := sorry
theorem opn_rks : ∀ {P : List Int}, (∀ w ∈ P, 1 ≤ rk w) → opn P = 0 ∧ brk P = 0 ∧ pnd P = P.length := sorry
theorem tw_rank {w : Int} : (ab_run wt (d + 1) 245 0 [(2, 7756), (0, w)] [] μ) = some ((0, rk w), μ) := sorry
def tNd (ν : ab_M) (i : Nat) (x : Nd) : Prop := ν 7848 i = twOp x.1 ∧ (x.1 = 0 → ν 7849 i = x.2.1) ∧ (x.1 = 1 ∨ x.1 = 2 → tNm (ν 7851 i) (ν 7852 i) x.2.2.1 ∧ ν 7850 i = x.2.2.2.1)
theorem tNd.to {i : Nat} {x : Nd} (h : tNd ν i x) (f : ∀ a, 7848 ≤ a → a ≤ 7852 → ν' a i = ν a i) : tNd ν' i x := sorry
def xS (ν : ab_M) (c : Nat) (W : List Int) (out : List Nd) (cnt : Nat) (cp : Nat → Int) : Prop :=
  (ν 7756 120 = c ∧ 160 ≤ c ∧ c < 200) ∧ (ν 7756 123 = W.length ∧ ∀ (i : Nat) (w : Int), W[i]? = some w → ν 7858 i = w) ∧ ν 7756 126 = opn W ∧ ν 7756 125 = brk W ∧ (∀ i, i ≤ brk W → ν 7859 i = cp i) ∧ (ν 7756 121 = cnt ∧ cnt ≤ 100) ∧ ν 7838 c = out.length ∧ (∀ (i : Nat) (x : Nd), out[i]? = some x → tNd ν (100 * c + i) x) ∧ out.length + pnd W ≤ cnt
def frXn (c : Nat) (ν ν' : ab_M) : Prop := ∀ a i, (a < 7848 ∨ 7852 < a ∨ i < 100 * c ∨ 100 * c + 100 ≤ i) → (a ≠ 7838 ∨ i ≠ c) → a ≠ 7858 → a ≠ 7859 → (a ≠ 7756 ∨ i ≠ 121 ∧ i ≠ 123 ∧ i ≠ 125 ∧ i ≠ 126) → ν' a i = ν a i
theorem frXn.refl : frXn c ν ν := sorry
theorem frXn.trans (f : frXn c ν ν') (g : frXn c ν' ν'') : frXn c ν ν'' := sorry
theorem frXn.z (hc : 160 ≤ c) (f : frXn c ν ν') : frSg ν ν' := sorry
theorem tg_node {x v : Int} {nd : Nd} (h : tG μ T n σ ν) (s : xS ν c W out cnt cp) (lo : out.length < 100) (hk : twOp nd.1 = x) (hv : nd.1 = 0 → v = nd.2.1) (hn : nd.1 = 1 ∨ nd.1 = 2 → tNm (ν 7851 (100 * c + out.length)) (ν 7852 (100 * c + out.length)) nd.2.2.1 ∧ ν 7850 (100 * c + out.length) = nd.2.2.2.1) (hp : out.length + 1 + pnd W ≤ cnt) : ∃ μ' ν', (ab_run wt (d + 1) 178 0 [(2, 7756), (0, x), (1, v), (3, 0), (3, 0)] [] μ) = some ((3, 0), μ') ∧ tG μ' T n σ ν' ∧ xS ν' c W (out ++ [nd]) cnt cp ∧ frXn c ν ν' := sorry
theorem opn_le : opn W ≤ W.length := sorry
theorem brk_le : brk W ≤ W.length := sorry
theorem tg_pop {w : Int} (h : tG μ T n σ ν) (s : xS ν c (W ++ [w]) out cnt cp) (l : W.length < 200) (w4 : w ≠ 402) (hw : twOp (spc w) = w) (h0 : spc w ≠ 0 ∧ spc w ≠ 1 ∧ spc w ≠ 2) : ∃ μ' ν', (ab_run wt (d + 2) 216 0 [(2, 7756), (3, 0)] [] μ) = some ((3, 0), μ') ∧ tG μ' T n σ ν' ∧ xS ν' c W (out ++ [(spc w, 0, nmZ0)]) cnt cp ∧ frXn c ν ν' := sorry
end Xz
end
section
section Ya
variable {T : Nat → Int} {n : Nat} {σ σ' : PS} {μ μ' μ'' μ0 ν ν' ν'' : ab_M} {d : Nat} {c cnt : Nat} {W P : List Int} {out : List Nd} {cp : Nat → Int}
theorem xS.ct (s : xS ν c W out cnt cp) (l : cnt < 100) : xS (ab_up ν 7756 121 ((cnt + 1 : Nat) : Int)) c W out (cnt + 1) cp := sorry
theorem frXn.ct {v : Int} : frXn c ν (ab_up ν 7756 121 v) := sorry
theorem tg_count (h : tG μ T n σ ν) (s : xS ν c W out cnt cp) : tGz (ab_run wt (d + 2) 31 0 [(2, 7756)] [] μ) ν (if cnt = 100 then .inl (3, (σ.1.2.1 : Int)) else .inr () : Flt ⊕ Unit) (fun _ μ' => tG μ' T n σ (ab_up ν 7756 121 ((cnt + 1 : Nat) : Int))) := sorry
theorem tg_cnt {α : Type} {Q : α → ab_M → Prop} {K : ab_M → ab_R} {x : Flt ⊕ α} (h : tG μ T n σ ν) (s : xS ν c W out cnt cp) (k : cnt < 100 → ∀ μ1, tG μ1 T n σ (ab_up ν 7756 121 ((cnt + 1 : Nat) : Int)) → tGz (K μ1) ν x Q) : tGz (ab_cal (ab_run wt (d + 2) 31 0 [(2, 7756)] [] μ) 0 (fun r1 μ1 => some ((4, r1), μ1)) (fun r1 μ1 => if r1 = 0 then some ((0, 0), μ1) else K μ1)) ν (if cnt = 100 then .inl (3, (σ.1.2.1 : Int)) else x) Q := sorry
theorem tg_operand (h : tG μ T n σ ν) (s : xS ν c W out cnt cp) : tGz (ab_run wt (d + 7) 190 0 [(2, 7756), (3, 0)] [] μ) ν (spOpd T n cnt σ) (fun p μ' => ∃ ν', tG μ' T n p.2.2 ν' ∧ xS ν' c W (out ++ p.1) p.2.1 cp ∧ frXn c ν ν') := sorry
def pend (out : List Nd) (P : List Int) : List Nd := out ++ P.reverse.map fun w => (spc w, 0, nmZ0)
theorem pend_app {w : Int} : pend out (P ++ [w]) = pend (out ++ [(spc w, 0, nmZ0)]) P := sorry
theorem rk_spc {w : Int} (h : 1 ≤ rk w) : twOp (spc w) = w ∧ spc w ≠ 0 ∧ spc w ≠ 1 ∧ spc w ≠ 2 ∧ w ≠ 400 ∧ w ≠ 401 ∧ w ≠ 402 := sorry
theorem tg_322 {r : Int} (hr : 1 ≤ r) (hW : rkT W < r) (lW : W.length < 100) : ∀ (P : List Int) (μ ν : ab_M) (out : List Nd), P.length < 100 → (∀ w ∈ P, r ≤ rk w) → tG μ T n σ ν → xS ν c (W ++ P) out cnt cp → ∃ μ' ν', (ab_run wt (d + 8) 51 322 [(2, 7756), (3, 0), (3, 0), (0, r)] [] μ) = (ab_run wt (d + 8) 51 355 [(2, 7756), (3, 0), (3, 0), (3, 0)] [] μ') ∧ tG μ' T n σ ν' ∧ xS ν' c W (pend out P) cnt cp ∧ frXn c ν ν' := sorry
end Ya
end
section
section Yb
variable {T : Nat → Int} {n : Nat} {σ σ' : PS} {μ μ' μ'' μ0 ν ν' ν'' : ab_M} {d : Nat} {c cnt : Nat} {W P : List Int} {out : List Nd} {cp : Nat → Int}
def xGo {α : Type} (run : ab_R) (ν : ab_M) (x : Flt ⊕ α) (Q : α → ab_R → Prop) : Prop := (∀ f, x = .inl f → Ft run (frSg ν) f.1 f.2) ∧ ∀ a, x = .inr a → Q a run
theorem xGo.fr {α : Type} {run : ab_R} {x : Flt ⊕ α} {Q : α → ab_R → Prop} (h : xGo run ν x Q) (f : frSg ν' ν) : xGo run ν' x Q := sorry
theorem xGo.sq {α β : Type} {run : ab_R} {x : Flt ⊕ α} {Q : α → ab_R → Prop} {f : α → Flt ⊕ β} {Q' : β → ab_R → Prop} (h : xGo run ν x Q) (k : ∀ a, x = .inr a → Q a run → xGo run ν (f a) Q') : xGo run ν (bnd x f) Q' := sorry
theorem tGz.go {α β : Type} {run : ab_R} {x : Flt ⊕ α} {Q : α → ab_M → Prop} {K : ab_M → ab_R} {f : α → Flt ⊕ β} {Q' : β → ab_R → Prop} (h : tGz run ν x Q) (k : ∀ a μ1, x = .inr a → Q a μ1 → xGo (K μ1) ν (f a) Q') : xGo (ab_cal run 0 (fun r1 μ1 => some ((4, r1), μ1)) (fun r1 μ1 => if r1 = 0 then some ((0, 0), μ1) else K μ1)) ν (bnd x f) Q' := sorry
theorem xGo.inl {α : Type} {run : ab_R} {f : Flt} {Q : α → ab_R → Prop} (h : Ft run (frSg ν) f.1 f.2) : xGo run ν (.inl f : Flt ⊕ α) Q := sorry
theorem xGo.inr {α : Type} {run : ab_R} {a : α} {Q : α → ab_R → Prop} (h : Q a run) : xGo run ν (.inr a : Flt ⊕ α) Q := sorry
def nT (W : List Int) : Prop := W.getLast? ≠ some 400 ∧ W.getLast? ≠ some 401
theorem nT_app {w : Int} (h : w ≠ 400 ∧ w ≠ 401) : nT (W ++ [w]) := sorry
theorem nT_P (hW : nT W) : ∀ {P : List Int}, (∀ w ∈ P, 1 ≤ rk w) → nT (W ++ P) := sorry
def tkR (k : Tok) : Int := if k.1 = 5 then rk (if 256 ≤ k.2.2.2.1 then k.2.2.2.1 + 44 else k.2.2.2.1) else 0
theorem tkR_3 {k : Tok} : tkR k = 3 ↔ rkO 3 k := sorry
theorem tkR_2 {k : Tok} : tkR k = 2 ↔ rkO 2 k := sorry
theorem tkR_1 {k : Tok} : tkR k = 1 ↔ isCmp k := sorry
theorem rk_rg {w : Int} : 0 ≤ rk w ∧ rk w ≤ 3 := sorry
theorem tkR_rg {k : Tok} : 0 ≤ tkR k ∧ tkR k ≤ 3 := sorry
def twW (k : Tok) : Int := if 256 ≤ k.2.2.2.1 then k.2.2.2.1 + 44 else k.2.2.2.1
theorem twW_rk {k : Tok} (h : 1 ≤ tkR k) : k.1 = 5 ∧ rk (twW k) = tkR k ∧ spc (twW k) = k.2.2.2.1 := sorry
theorem tg_203 (h : tG μ T n σ ν) (s : xS ν c W out cnt cp) (l : W.length < 200) (hW : nT W) : (ab_run wt (d + 8) 51 203 [(2, 7756), (0, 0), (0, 0), (3, 0)] [] μ) = (ab_run wt (d + 8) 51 271 [(2, 7756), (0, 0), (0, 0), (3, 0)] [(0, (tkR σ.1))] μ) := sorry
theorem tg_355 (h : tG μ T n σ ν) (s : xS ν c W out cnt cp) (l : W.length < 200) (z : 1 ≤ tkR σ.1) (lp : out.length + pnd W + 1 ≤ cnt) : xGo (ab_run wt (d + 8) 51 355 [(2, 7756), (3, 0), (3, 0), (3, 0)] [] μ) ν (spA T n σ) (fun σ' run => ∃ μ' ν', run = (ab_run wt (d + 8) 51 22 [(2, 7756), (3, 0), (3, 0), (3, 0)] [] μ') ∧ tG μ' T n σ' ν' ∧ xS ν' c (W ++ [twW σ.1]) out cnt cp ∧ frXn c ν ν') := sorry
end Yb
end
section
section Yc
variable {T : Nat → Int} {n : Nat} {σ σ' : PS} {μ μ' μ'' μ0 ν ν' ν'' : ab_M} {d : Nat} {c cnt : Nat} {W P : List Int} {out : List Nd} {cp : Nat → Int}
def LvQ (T : Nat → Int) (n d c : Nat) (r : Int) (W : List Int) (out : List Nd) (ν : ab_M) (σ : PS) (cp : Nat → Int) (p : List Nd × Nat × PS) (run : ab_R) : Prop := ∃ μ' ν' P out', run = (ab_run wt (d + 8) 51 203 [(2, 7756), (0, 0), (0, 0), (3, 0)] [] μ') ∧ tG μ' T n p.2.2 ν' ∧ xS ν' c (W ++ P) out' p.2.1 cp ∧ (∀ w ∈ P, r ≤ rk w) ∧ (P.length : Int) ≤ 4 - r ∧ pend out' P = out ++ p.1 ∧ frXn c ν ν' ∧ σ.1.2.1 < p.2.2.1.2.1 ∧ (r ≤ 3 → ¬ rkO 3 p.2.2.1) ∧ (r ≤ 2 → ¬ rkO 2 p.2.2.1)
def LvC (T : Nat → Int) (n d c : Nat) (r : Int) (F : Nat) (U : Nat → PS → Xr) : Prop := ∀ (μ : ab_M) (σ : PS) (ν : ab_M) (W : List Int) (out : List Nd) (cnt : Nat) (cp : Nat → Int), tG μ T n σ ν → xS ν c W out cnt cp → rkT W < r → (W.length : Int) ≤ 4 * opn W + (r - 1) → opn W + F = 10 → (r ≤ 3 → nT W) → xGo (ab_run wt (d + 8) 51 22 [(2, 7756), (3, 0), (3, 0), (3, 0)] [] μ) ν (U cnt σ) (LvQ T n d c r W out ν σ cp)
theorem pend_cons {w : Int} : pend out ([w] ++ P) = pend out P ++ [(spc w, 0, nmZ0)] := sorry
theorem pend_len : (pend out P).length = out.length + P.length := sorry
theorem tg_op {q : Int} (hq : q = tkR σ.1) (q1 : 1 ≤ q) (h : tG μ T n σ ν) (s : xS ν c (W ++ P) out cnt cp) (hW : rkT W < q) (lW : W.length < 100) (lP : P.length < 100) (hP : ∀ w ∈ P, q ≤ rk w) (hc : q = 1 → cp (brk W) = 0) (b10 : brk W < 16) : xGo (ab_run wt (d + 8) 51 271 [(2, 7756), (0, 0), (0, 0), (3, 0)] [(0, q)] μ) ν (if cnt = 100 then .inl (3, (σ.1.2.1 : Int)) else spA T n σ) (fun σ' run => ∃ μ' ν', run = (ab_run wt (d + 8) 51 22 [(2, 7756), (3, 0), (3, 0), (3, 0)] [] μ') ∧ tG μ' T n σ' ν' ∧ xS ν' c (W ++ [twW σ.1]) (pend out P) (cnt + 1) (if q = 1 then fun i => if i = brk W then 1 else cp i else cp) ∧ frXn c ν ν') := sorry
theorem tg_more {r : Nat} {F : Nat} {U : Nat → PS → Xr} (r23 : r = 2 ∨ r = 3) (hU : LvC T n d c ((r : Int) + 1) F U) (ho : opn W + F = 10) (hW : rkT W < (r : Int)) (lW : (W.length : Int) ≤ 4 * opn W + ((r : Int) - 1)) (nW : nT W) : ∀ (f : Nat) (μ : ab_M) (σ : PS) (ν : ab_M) (P : List Int) (out1 : List Nd) (e : List Nd) (cnt : Nat), n < σ.1.2.1 + f → tG μ T n σ ν → xS ν c (W ++ P) out1 cnt cp → (∀ w ∈ P, (r : Int) ≤ rk w) → (P.length : Int) ≤ 4 - r → pend out1 P = out ++ e → (r = 2 → ¬ rkO 3 σ.1) →
    xGo (ab_run wt (d + 8) 51 203 [(2, 7756), (0, 0), (0, 0), (3, 0)] [] μ) ν (spMore T n r U f e cnt σ) (fun p run => ∃ μ' ν' P out', run = (ab_run wt (d + 8) 51 203 [(2, 7756), (0, 0), (0, 0), (3, 0)] [] μ') ∧ tG μ' T n p.2.2 ν' ∧ xS ν' c (W ++ P) out' p.2.1 cp ∧ (∀ w ∈ P, (r : Int) ≤ rk w) ∧ (P.length : Int) ≤ 4 - r ∧ pend out' P = out ++ p.1 ∧ frXn c ν ν' ∧ σ.1.2.1 ≤ p.2.2.1.2.1 ∧ ¬ rkO r p.2.2.1 ∧ (r = 2 → ¬ rkO 3 p.2.2.1)) := sorry
theorem tg_lv {r : Nat} {F : Nat} {U : Nat → PS → Xr} (r23 : r = 2 ∨ r = 3) (hU : LvC T n d c ((r : Int) + 1) F U) : LvC T n d c (r : Int) F (spLv T n r U) := sorry
def ExQ (T : Nat → Int) (n d c : Nat) (W : List Int) (out : List Nd) (ν : ab_M) (σ : PS) (cp : Nat → Int) (p : List Nd × Nat × PS) (run : ab_R) : Prop := ∃ μ' ν' P out' v, run = (ab_run wt (d + 8) 51 203 [(2, 7756), (0, 0), (0, 0), (3, 0)] [] μ') ∧ tG μ' T n p.2.2 ν' ∧ xS ν' c (W ++ P) out' p.2.1 (fun i => if i = brk W then v else cp i) ∧ (∀ w ∈ P, 1 ≤ rk w) ∧ P.length ≤ 3 ∧ pend out' P = out ++ p.1 ∧ frXn c ν ν' ∧ σ.1.2.1 < p.2.2.1.2.1 ∧ tkR p.2.2.1 ≤ 1 ∧ (tkR p.2.2.1 = 1 → v ≠ 0)
theorem tg_exp {F : Nat} {U : Nat → PS → Xr} (hU : LvC T n d c 4 F U) (h : tG μ T n σ ν) (s : xS ν c W out cnt cp) (hr : rkT W = 0) (hl : W.length ≤ 4 * opn W) (ho : opn W + F = 10) (nw : nT W) (hc : cp (brk W) = 0) (b10 : brk W < 16) : xGo (ab_run wt (d + 8) 51 22 [(2, 7756), (3, 0), (3, 0), (3, 0)] [] μ) ν (spExp T n U cnt σ) (ExQ T n d c W out ν σ cp) := sorry
end Yc
end
section
section Yd
variable {T : Nat → Int} {n : Nat} {σ σ' : PS} {μ μ' μ'' μ0 ν ν' ν'' : ab_M} {d : Nat} {c cnt : Nat} {W P : List Int} {out : List Nd} {cp : Nat → Int}
theorem xS.push {w : Int} {νa : ab_M} {cnt' : Nat} {cp' : Nat → Int} (s : xS ν c W out cnt cp) (va : ∀ a i, a ≠ 7858 → a ≠ 7859 → (a ≠ 7756 ∨ i ≠ 121 ∧ i ≠ 123 ∧ i ≠ 125 ∧ i ≠ 126) → νa a i = ν a i) (v1 : ∀ i, i ≠ W.length → νa 7858 i = ν 7858 i) (v2 : νa 7858 W.length = w) (v3 : νa 7756 123 = ((W.length + 1 : Nat) : Int)) (v4 : νa 7756 126 = (opn (W ++ [w]) : Int)) (v5 : νa 7756 125 = (brk (W ++ [w]) : Int)) (v6 : ∀ i, i ≤ brk (W ++ [w]) → νa 7859 i = cp' i) (v7 : νa 7756 121 = (cnt' : Int)) (l : cnt' ≤ 100) (lp : out.length + pnd (W ++ [w]) ≤ cnt') : xS νa c (W ++ [w]) out cnt' cp' := sorry
theorem tg_394 (hW : W = [] ∨ W.getLast? = some 402) (lW : W.length < 100) : ∀ (P : List Int) (μ ν : ab_M) (out : List Nd), P.length < 100 → (∀ w ∈ P, 1 ≤ rk w) → tG μ T n σ ν → xS ν c (W ++ P) out cnt cp → ∃ μ' ν', (ab_run wt (d + 8) 51 394 [(2, 7756), (0, 0), (0, 0), (3, 0)] [] μ) = (ab_run wt (d + 8) 51 425 [(2, 7756), (0, 0), (0, 0), (3, 0)] [] μ') ∧ tG μ' T n σ ν' ∧ xS ν' c W (pend out P) cnt cp ∧ frXn c ν ν' := sorry
theorem tg_un : ∀ F : Nat, LvC T n d c 4 F (spU T n F) := sorry
end Yd
end
section
section Ye
variable {T : Nat → Int} {n : Nat} {σ σ' : PS} {μ μ' μ'' μ0 ν ν' ν'' : ab_M} {d : Nat} {c cnt : Nat} {W P : List Int} {out : List Nd} {cp : Nat → Int}
def cntS (U : Nat → PS → Xr) : Prop := ∀ c σ p, c ≤ 100 → U c σ = .inr p → p.2.1 = c + p.1.length ∧ 1 ≤ p.1.length ∧ c < 100 ∧ p.2.1 ≤ 100
theorem cnt_lv {r : Nat} {U : Nat → PS → Xr} (h : cntS U) : cntS (spLv T n r U) := sorry
theorem cnt_exp {U : Nat → PS → Xr} (h : cntS U) : cntS (spExp T n U) := sorry
theorem cnt_opd {c : Nat} (l : c ≤ 100) {p : List Nd × Nat × PS} (e : spOpd T n c σ = .inr p) : p.2.1 = c + p.1.length ∧ 1 ≤ p.1.length ∧ c < 100 ∧ p.2.1 ≤ 100 := sorry
theorem cnt_U : ∀ F : Nat, cntS (spU T n F) := sorry
def ndS (S : List Sp) : List Nd := S.flatMap fun x => x.2.2
def tSp (ν : ab_M) (i : Nat) (x : Sp) (e : Nat) : Prop := ν 7842 i = x.1 ∧ (x.1 = 0 ∨ x.1 = 1 → tNm (ν 7846 i) (ν 7847 i) x.2.1.1 ∧ ν 7845 i = x.2.1.2.1) ∧ ν 7844 i = e
theorem tSp.to {i e : Nat} {x : Sp} (h : tSp ν i x e) (f : ∀ a, 7842 ≤ a → a ≤ 7847 → ν' a i = ν a i) : tSp ν' i x e := sorry
def tCs (ν : ab_M) (c : Nat) (S : List Sp) (cnt : Nat) : Prop := (ν 7756 120 = c ∧ 160 ≤ c ∧ c < 200) ∧ (ν 7756 121 = cnt ∧ cnt ≤ 100) ∧ (ν 7837 c = S.length ∧ S.length ≤ (ndS S).length) ∧ (ν 7838 c = (ndS S).length ∧ (ndS S).length = cnt) ∧ (∀ (i : Nat) (x : Nd), (ndS S)[i]? = some x → tNd ν (100 * c + i) x) ∧ ∀ (i : Nat) (x : Sp), S[i]? = some x → tSp ν (100 * c + i) x (ndS (S.take (i + 1))).length
theorem tg_expr (h : tG μ T n σ ν) (s1 : ν 7756 120 = c ∧ 160 ≤ c ∧ c < 200) (s2 : ν 7756 121 = cnt ∧ cnt ≤ 100) (s3 : ν 7838 c = out.length) (s4 : ∀ (i : Nat) (x : Nd), out[i]? = some x → tNd ν (100 * c + i) x) (s5 : out.length ≤ cnt) : (∀ f, spExp T n (spU T n 10) cnt σ = .inl f → Ft (ab_run wt (d + 8) 51 0 [(2, 7756), (3, 0), (3, 0), (3, 0)] [] μ) (frSg ν) f.1 f.2) ∧ ∀ p, spExp T n (spU T n 10) cnt σ = .inr p → (tkR p.2.2.1 = 1 → Ft (ab_run wt (d + 8) 51 0 [(2, 7756), (3, 0), (3, 0), (3, 0)] [] μ) (frSg ν) 2 (p.2.2.1.2.1 : Int)) ∧ (tkR p.2.2.1 ≠ 1 → ∃ μ' ν', (ab_run wt (d + 8) 51 0 [(2, 7756), (3, 0), (3, 0), (3, 0)] [] μ) = some ((0, 1), μ') ∧ tG μ' T n p.2.2 ν' ∧ ν' 7756 121 = p.2.1 ∧ ν' 7838 c = (out ++ p.1).length ∧ (∀ (i : Nat) (x : Nd), (out ++ p.1)[i]? = some x → tNd ν' (100 * c + i) x) ∧ frXn c ν ν') := sorry
end Ye
end
