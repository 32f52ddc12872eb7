/-! contracts: printed by tools/mk.py out of s98zzzzzr_cgr.py -/
set_option maxRecDepth 100000
set_option maxHeartbeats 2000000
/-! what a question is worth, looked at in another store -/
def AGX (σ τ : Sto) (o : Nat) : Prop := ∀ c i, (c = 0 ∨ (16 ≤ c ∧ c ≤ 47) ∨ (o + 2 ≤ c ∧ c ≤ o + 16)) → τ.I c i = σ.I c i
section AGXS
variable {σ τ : Sto} {o : Nat}
theorem AGX.e (h : AGX σ τ o) (c : Nat) (q : c = 0 ∨ (16 ≤ c ∧ c ≤ 47) ∨ (o + 2 ≤ c ∧ c ≤ o + 16)) : τ.I c = σ.I c := funext fun i => h c i q
theorem tQ_x (h : AGX σ τ o) : tQ τ = tQ σ := by
  funext f A i n t
  unfold tQ
  rw [h.e 20 (by omega), h.e 21 (by omega), h.e 19 (by omega)]
theorem tmX_x (h : AGX σ τ o) : tmX τ = tmX σ := by
  funext f l j
  unfold tmX
  rw [tQ_x h, h.e 18 (by omega)]
theorem sqV_x (h : AGX σ τ o) : sqV τ = sqV σ := by
  funext f l v p x
  unfold sqV
  rw [tmX_x h, h.e 39 (by omega), h.e 31 (by omega), h.e 36 (by omega), h.e 32 (by omega)]
theorem mtV_x (h : AGX σ τ o) : mtV τ = mtV σ := by
  funext f l sl v
  unfold mtV
  rw [sqV_x h]
theorem sn_x (h : AGX σ τ o) : sn τ (o + 15) = sn σ (o + 15) := by
  funext k
  unfold sn
  rw [h.e (o + 15 + 1) (by omega)]
theorem foX_x (h : AGX σ τ o) : foX τ o = foX σ o := by
  funext f l sl V k
  unfold foX
  rw [h.e (o + 15) (by omega), sn_x h, mtV_x h, h.e 27 (by omega), h.e 0 (by omega), h.e 26 (by omega)]
theorem tkQ_x (h : AGX σ τ o) : tkQ τ = tkQ σ := by
  funext t k
  unfold tkQ
  rw [h.e 36 (by omega)]
theorem wkQ_x (h : AGX σ τ o) : wkQ τ = wkQ σ := by
  funext t v
  unfold wkQ
  rw [h.e 16 (by omega), h.e 26 (by omega), h.e 33 (by omega)]
theorem obT_x (h : AGX σ τ o) : obT τ = obT σ := by
  funext k
  unfold obT
  rw [h.e 27 (by omega), h.e 38 (by omega)]
theorem isWt_x (h : AGX σ τ o) : isWt τ = isWt σ := by
  funext t
  unfold isWt
  rw [h.e 16 (by omega), h.e 20 (by omega)]
theorem vhX_x (h : AGX σ τ o) : vhX τ = vhX σ := by
  funext t v
  unfold vhX
  rw [h.e 16 (by omega), h.e 26 (by omega), h.e 33 (by omega), h.e 36 (by omega), h.e 31 (by omega), h.e 32 (by omega)]
theorem dhX_x (h : AGX σ τ o) : dhX τ = dhX σ := by
  funext t n
  unfold dhX
  rw [vhX_x h, h.e 0 (by omega)]
theorem mkQ_x (h : AGX σ τ o) : mkQ τ o = mkQ σ o := by
  funext t K V k
  unfold mkQ
  rw [h.e (o + 15) (by omega), sn_x h, isWt_x h, tkQ_x h, obT_x h, wkQ_x h, h.e 27 (by omega), h.e 0 (by omega), dhX_x h]
theorem vtX_x (h : AGX σ τ o) : vtX τ o = vtX σ o := by
  funext n
  unfold vtX
  rw [tQ_x h, h.e (o + 8) (by omega), h.e (o + 2) (by omega), h.e (o + 9) (by omega), h.e (o + 10) (by omega), h.e 18 (by omega)]
theorem lvX_x (h : AGX σ τ o) : lvX τ o = lvX σ o := by
  funext x v
  unfold lvX
  rw [h.e 26 (by omega), h.e (o + 8) (by omega), h.e (o + 3) (by omega), h.e (o + 12) (by omega), h.e 30 (by omega), h.e (o + 13) (by omega), h.e (o + 14) (by omega)]
theorem oqR_x (h : AGX σ τ o) : oqR τ o = oqR σ o := by
  funext n k
  unfold oqR
  rw [h.e (o + 15) (by omega), h.e (o + 16) (by omega), lvX_x h, h.e 42 (by omega), h.e 43 (by omega)]
theorem oqV_x (h : AGX σ τ o) : oqV τ o = oqV σ o := by
  funext n K V k
  unfold oqV
  rw [vtX_x h, h.e (o + 10) (by omega), h.e (o + 9) (by omega), mkQ_x h]
theorem shF_x (h : AGX σ τ o) : shF τ o = shF σ o := by
  funext f
  unfold shF
  rw [h.e (o + 15) (by omega)]
theorem owX_x (h : AGX σ τ o) : owX τ (o + 15) = owX σ (o + 15) := by
  funext t K V
  unfold owX
  rw [h.e 16 (by omega), h.e 20 (by omega), wkQ_x h, sn_x h, h.e 27 (by omega), tkQ_x h, obT_x h]
theorem xTO_x (h : AGX σ τ o) : xTO τ = xTO σ := by
  funext f k
  unfold xTO
  rw [h.e 26 (by omega), h.e 42 (by omega), h.e 32 (by omega), h.e 43 (by omega)]
theorem swX_x (h : AGX σ τ o) : swX τ (o + 15) = swX σ (o + 15) := by
  funext k
  unfold swX
  rw [h.e (o + 15) (by omega), h.e (o + 15 + 1) (by omega)]
theorem hxV_x (h : AGX σ τ o) : hxV τ = hxV σ := by
  funext f k
  unfold hxV qvX
  rw [h.e 26 (by omega), h.e 42 (by omega), h.e 43 (by omega)]
theorem hvX_x (h : AGX σ τ o) : hvX τ (o + 15) = hvX σ (o + 15) := by
  funext f n
  unfold hvX
  rw [swX_x h, hxV_x h]
theorem tkX_x (h : AGX σ τ o) : tkX τ (o + 15) = tkX σ (o + 15) := by
  funext f n
  unfold tkX
  rw [swX_x h, xTO_x h]
theorem fitX_x (h : AGX σ τ o) {y : Int} (hp : ptX τ o y = ptX σ o y) : fitX τ o y = fitX σ o y := by
  funext t
  unfold fitX
  rw [hp, h.e (o + 3) (by omega), h.e (o + 10) (by omega), h.e (o + 9) (by omega), h.e 19 (by omega), h.e 21 (by omega), h.e (o + 11) (by omega)]
theorem oqW_x (h : AGX σ τ o) {y K V m k : Int} (hp : ptX τ o y = ptX σ o y) : oqW τ o y K V m k = oqW σ o y K V m k := by
  unfold oqW
  rw [fitX_x h hp, mkQ_x h, h.e 20 (by omega), h.e (o + 8) (by omega)]
theorem otQ_x (h : AGX σ τ o) {y K V k : Int} (hp : ptX τ o y = ptX σ o y) : otQ τ o y K V k = otQ σ o y K V k := by
  unfold otQ
  rw [oqW_x h hp, oqV_x h, oqR_x h, h.e (o + 3) (by omega), h.e 18 (by omega)]
theorem fvX_x (h : AGX σ τ o) {lx : Int → TL} {y K V k : Int} (hp : ptX τ o y = ptX σ o y) : fvX τ o lx K V y k = fvX σ o lx K V y k := by
  unfold fvX
  rw [otQ_x h hp, shF_x h, foX_x h, h.e (o + 8) (by omega), h.e (o + 3) (by omega), h.e (o + 11) (by omega)]
theorem ixX_x (h : AGX σ τ o) (h17 : τ.I (o + 17) = σ.I (o + 17)) : ixX τ o = ixX σ o := by
  funext f K V l j
  unfold ixX
  rw [tmX_x h, owX_x h, h17]
theorem smX_x (h : AGX σ τ o) (h17 : τ.I (o + 17) = σ.I (o + 17)) : smX τ o = smX σ o := by
  funext f K V l q
  unfold smX
  have e : plX τ o f K V l = plX σ o f K V l := by
    funext p
    unfold plX
    rw [ixX_x h h17]
  rw [e]
theorem svX_x (h : AGX σ τ o) (h17 : τ.I (o + 17) = σ.I (o + 17)) : svX τ o = svX σ o := by
  funext lx K V y
  unfold svX
  rw [shF_x h, smX_x h h17, vtX_x h, owX_x h, h17, h.e (o + 8) (by omega), h.e (o + 3) (by omega), h.e (o + 10) (by omega), h.e (o + 9) (by omega)]
theorem ptX_x (h : AGX σ τ o) (er : τ.R 3 = σ.R 3) (ea : ∀ c, 675 ≤ c → τ.I c = σ.I c) {y : Int} (hp : σ.I 16 (σ.I (o + 8) y) = 0 → 675 ≤ anC σ (σ.I 17 (σ.I (o + 8) y))) : ptX τ o y = ptX σ o y := by
  have ac : anC τ = anC σ := by
    funext k
    show (τ.R 3 k).getD 0 = (σ.R 3 k).getD 0
    rw [er]
  funext m
  unfold ptX
  rw [h.e 16 (by omega), h.e (o + 8) (by omega), h.e 17 (by omega), h.e (o + 2) (by omega), h.e (o + 9) (by omega), ac]
  by_cases c : σ.I 16 (σ.I (o + 8) y) = 0
  · rw [ea _ (hp c)]
  · rw [if_neg (fun z => c z.1), if_neg (fun z => c z.1)]
end AGXS
/-- the model's half -/
def AGM (σ τ : Sto) : Prop := (∀ c i, 555 ≤ c → c < 675 → τ.I c i = σ.I c i) ∧ τ.R 555 74 = σ.R 555 74
section AGMS
variable {σ τ : Sto}
theorem AGM.e (h : AGM σ τ) (c : Nat) (q : 555 ≤ c ∧ c < 675) : τ.I c = σ.I c := funext fun i => h.1 c i q.1 q.2
theorem src_m (h : AGM σ τ) : src τ = src σ := by unfold src; rw [h.2]
theorem mT_mm (h : AGM σ τ) : mT τ = mT σ := by
  funext A i n t
  unfold mT
  rw [h.e 587 (by omega), h.e 586 (by omega)]
theorem mV_m (h : AGM σ τ) : mV τ = mV σ := by
  funext f v
  unfold mV
  rw [h.e 579 (by omega), h.e 602 (by omega)]
theorem tcM_m (h : AGM σ τ) : tcM τ = tcM σ := by
  funext v
  unfold tcM
  rw [h.e 582 (by omega)]
theorem mVT_m (h : AGM σ τ) : mVT τ = mVT σ := by
  funext f A i n v
  unfold mVT
  rw [mV_m h, mT_mm h, h.e 582 (by omega), tcM_m h]
theorem mHT_m (h : AGM σ τ) : mHT τ = mHT σ := by
  funext f A i n o
  unfold mHT
  rw [mVT_m h, h.e 595 (by omega), h.e 596 (by omega)]
theorem mHV_m (h : AGM σ τ) : mHV τ = mHV σ := by
  funext f o
  unfold mHV
  rw [mV_m h, h.e 595 (by omega), h.e 596 (by omega)]
theorem mTO_m (h : AGM σ τ) : mTO τ = mTO σ := by
  funext f o
  unfold mTO
  rw [mV_m h, tcM_m h, h.e 595 (by omega), h.e 596 (by omega)]
theorem mAT_m (h : AGM σ τ) : mAT τ = mAT σ := by
  funext f
  unfold mAT
  rw [mTO_m h, h.e 601 (by omega)]
theorem hwM_m (h : AGM σ τ) : hwM τ = hwM σ := by
  funext f
  unfold hwM
  rw [mHV_m h, h.e 601 (by omega)]
theorem lkL_m (h : AGM σ τ) : lkL τ = lkL σ := by
  funext l m p t
  unfold lkL
  rw [mT_mm h]
theorem sqL_m (h : AGM σ τ) : sqL τ = sqL σ := by
  funext l m v p x
  unfold sqL
  rw [h.e 590 (by omega), h.e 582 (by omega), lkL_m h, tcM_m h]
theorem mtL_m (h : AGM σ τ) : mtL τ = mtL σ := by
  funext l sl v
  unfold mtL
  rw [sqL_m h]
theorem cL_m (h : AGM σ τ) : cL τ = cL σ := by
  funext f l sl o m
  unfold cL
  rw [mV_m h, mtL_m h, h.e 595 (by omega)]
theorem cLo_m (h : AGM σ τ) : cLo τ = cLo σ := by
  funext l n o
  unfold cLo
  rw [cL_m h, h.e 614 (by omega), h.e 617 (by omega), h.e 596 (by omega)]
theorem dL_m (h : AGM σ τ) : dL τ = dL σ := by
  funext f l q
  unfold dL
  rw [mHT_m h, h.e 601 (by omega)]
theorem idL_m (h : AGM σ τ) : idL τ = idL σ := by
  funext f l q
  unfold idL
  rw [dL_m h, hwM_m h]
theorem plL_m (h : AGM σ τ) : plL τ = plL σ := by
  funext f l p
  unfold plL
  rw [idL_m h]
theorem smL_m (h : AGM σ τ) : smL τ = smL σ := by
  funext f l n
  unfold smL
  rw [plL_m h]
theorem txV_m (h : AGM σ τ) : txV τ = txV σ := by
  funext l n o
  unfold txV
  rw [h.e 601 (by omega), cLo_m h, h.e 555 (by omega), smL_m h, h.e 614 (by omega), mAT_m h, mTO_m h, hwM_m h]
theorem vaZ_m (h : AGM σ τ) : vaZ τ = vaZ σ := by
  funext n
  unfold vaZ
  rw [h.e 616 (by omega), h.e 615 (by omega)]
theorem vaS_m (h : AGM σ τ) (hs : 555 ≤ src σ ∧ src σ < 675) : vaS τ = vaS σ := by
  funext n
  unfold vaS
  rw [h.e 555 (by omega), h.e 601 (by omega), mHV_m h, h.e 614 (by omega), mHT_m h, src_m h, h.e (src σ) hs, h.e 615 (by omega), vaZ_m h]
theorem vaV_m (h : AGM σ τ) (hs : 555 ≤ src σ ∧ src σ < 675) : vaV τ = vaV σ := by
  funext n o
  unfold vaV
  rw [vaS_m h hs, h.e 555 (by omega), h.e 601 (by omega), h.e 614 (by omega), mHT_m h, src_m h, h.e (src σ) hs, h.e 615 (by omega), vaZ_m h]
theorem qb_m (h : AGM σ τ) (hs : 555 ≤ src σ ∧ src σ < 675) : qb τ = qb σ := by
  funext k
  unfold qb
  rw [src_m h, h.e (src σ) hs, h.e 555 (by omega)]
theorem ptM_m (h : AGM σ τ) (hs : 555 ≤ src σ ∧ src σ < 675) : ptM τ = ptM σ := by
  funext n k
  unfold ptM
  rw [qb_m h hs, h.e 577 (by omega), h.e 614 (by omega), h.e 558 (by omega), h.e 578 (by omega), h.e 615 (by omega)]
theorem fitM_mm (h : AGM σ τ) (hs : 555 ≤ src σ ∧ src σ < 675) : fitM τ = fitM σ := by
  funext n t
  unfold fitM
  rw [ptM_m h hs, h.e 609 (by omega), h.e 616 (by omega), h.e 615 (by omega), h.e 586 (by omega), h.e 587 (by omega), h.e 617 (by omega)]
theorem lfM_m (h : AGM σ τ) (hs : 555 ≤ src σ ∧ src σ < 675) : lfM τ = lfM σ := by
  funext n v
  unfold lfM
  rw [fitM_mm h hs, h.e 609 (by omega), h.e 618 (by omega), h.e 583 (by omega), h.e 619 (by omega), h.e 584 (by omega), h.e 620 (by omega), h.e 582 (by omega), tcM_m h]
theorem hlM_m (h : AGM σ τ) (hs : 555 ≤ src σ ∧ src σ < 675) : hlM τ = hlM σ := by
  funext n o
  unfold hlM
  rw [lfM_m h hs, mV_m h, h.e 614 (by omega), h.e 595 (by omega), h.e 596 (by omega)]
theorem LfM_m (h : AGM σ τ) (hs : 555 ≤ src σ ∧ src σ < 675) : LfM τ = LfM σ := by
  funext lf n o
  unfold LfM
  rw [txV_m h, vaV_m h hs, hlM_m h hs, h.e 609 (by omega)]
theorem TM_m (h : AGM σ τ) : TM τ = TM σ := by
  funext c i
  unfold TM
  rw [h.e 609 (by omega), h.e 610 (by omega), h.e 611 (by omega), h.e 612 (by omega), h.e 613 (by omega), h.e 615 (by omega)]
theorem WM_m (h : AGM σ τ) : WM τ = WM σ := by
  funext o
  unfold WM
  rw [h.e 601 (by omega)]
theorem wV_m (h : AGM σ τ) (hs : 555 ≤ src σ ∧ src σ < 675) (lf : Int → TL) : wV τ lf = wV σ lf := by
  unfold wV vNM
  rw [TM_m h, WM_m h, h.e 591 (by omega), LfM_m h hs]
end AGMS

