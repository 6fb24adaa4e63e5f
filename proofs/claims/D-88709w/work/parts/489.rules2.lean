/-! further rules, second part. Own work. -/
set_option maxRecDepth 100000
/-- fewer locals known: the way on first -/
theorem pj_J.drp {G : pj_G} {mt : pj_M} {d pc : Nat} {L L' : pj_L} {st : List Value} {h : pj_H} {kc ks : Nat} {Q : pj_O → pj_H → Prop} (k : pj_J G mt d pc L' st h kc ks Q) (hL : pj_le L' L) : pj_J G mt d pc L st h kc ks Q := pj_J.drop hL k
