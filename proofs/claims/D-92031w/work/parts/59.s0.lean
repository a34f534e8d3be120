/-! soundness, tables: names of the classes, their fields, printed by wip/gen/gen_sound.py -/
def cnm (t : Nat) : String := match t with
  | 0 => "HeardPlaces"
  | 1 => "HeardPlaces$Place"
  | 2 => "HeardPlacesModel"
  | 3 => "HeardPlaces$Thing"
  | 4 => "HeardPlaces$Anchor"
  | 5 => "HeardPlaces$Beacon"
  | 6 => "HeardPlaces$Measure"
  | 7 => "HeardPlaces$Far"
  | 8 => "HeardPlaces$Hears"
  | 9 => "HeardPlaces$Deaf"
  | 10 => "HeardPlaces$Side"
  | 11 => "HeardPlaces$Steps"
  | 12 => "HeardPlaces$TooMany"
  | 13 => "HeardPlaces$Image"
  | 14 => "HeardPlaces$Stands"
  | 15 => "HeardPlaces$Weighs"
  | 16 => "java/util/ArrayList"
  | 17 => "HeardPlacesLaw"
  | 18 => "java/util/AbstractCollection"
  | 19 => "java/util/AbstractList"
  | 20 => "java/lang/NullPointerException"
  | 21 => "java/lang/ClassCastException"
  | 22 => "java/lang/ArrayIndexOutOfBoundsException"
  | 23 => "java/lang/NegativeArraySizeException"
  | 24 => "java/lang/ArrayStoreException"
  | 25 => "java/lang/IndexOutOfBoundsException"
  | 26 => "java/lang/RuntimeException"
  | 27 => "java/lang/String"
  | 30 => "java/util/Arrays"
  | 31 => "java/util/Objects"
  | 32 => "jdk/internal/util/Preconditions"
  | 33 => "java/lang/Long"
  | 34 => "java/lang/Integer"
  | 35 => "jdk/internal/util/ArraysSupport"
  | 36 => "java/lang/Math"
  | 37 => "java/lang/Object"
  | 38 => "java/lang/Throwable"
  | 39 => "java/lang/Exception"
  | _ => ""
def cTT (t : Nat) : u_T := match t with
  | 0 => TX0
  | 1 => TX1
  | 2 => TX2
  | 3 => TX3
  | 4 => TX4
  | 5 => TX5
  | 7 => TX7
  | 8 => TX8
  | 9 => TX9
  | 10 => TX10
  | 11 => TX11
  | 13 => TX13
  | 16 => TJ2
  | _ => fun _ => ("", "", "", false)
def cty (t : Nat) : Nat → FieldType := match t with
  | 0 => tyX0
  | 1 => tyX1
  | 2 => tyX2
  | 3 => tyX3
  | 4 => tyX4
  | 5 => tyX5
  | 7 => tyX7
  | 8 => tyX8
  | 9 => tyX9
  | 10 => tyX10
  | 11 => tyX11
  | 13 => tyX13
  | 16 => tyJ2
  | _ => fun _ => .int
def objT : List Nat := [0, 1, 2, 3, 4, 5, 7, 8, 9, 10, 11, 13, 16]
def excT : List Nat := [12, 20, 21, 22, 23, 24]
def nf (t : Nat) : Nat := (cfT.getD t []).length
def fdOf (t k : Nat) : Nat := (cfT.getD t []).getD k 0
def fN : List (String × String × String) := [("HeardPlaces", "fault", "I"), ("HeardPlaces", "trace", "I"), ("HeardPlaces", "wide", "I"), ("HeardPlaces", "high", "I"), ("HeardPlaces", "walls", "J"), ("HeardPlaces", "hop", "[J"), ("HeardPlaces", "things", "Ljava/util/List;"), ("HeardPlaces", "measures", "Ljava/util/List;"), ("HeardPlaces", "narrowed", "[J"), ("HeardPlaces", "tried", "[J"), ("HeardPlaces", "isAsked", "[Z"), ("HeardPlaces", "isNarrow", "Z"), ("HeardPlaces", "isQuarrelFound", "Z"), ("HeardPlaces", "isQuarrel", "Z"), ("HeardPlaces", "isLeft", "[Z"), ("HeardPlaces", "leftMany", "I"), ("HeardPlaces", "isAlone", "Z"), ("HeardPlaces", "member", "[I"), ("HeardPlaces", "at", "[I"), ("HeardPlaces", "members", "I"), ("HeardPlaces", "barred", "J"), ("HeardPlaces", "trialMany", "I"), ("HeardPlaces", "trialsTold", "I"), ("HeardPlaces", "found", "I"), ("HeardPlaces", "seen", "[J"), ("HeardPlaces", "often", "[[I"), ("HeardPlaces", "apart", "[[I"), ("HeardPlaces", "wanted", "I"), ("HeardPlaces", "wantedAt", "[I"), ("HeardPlaces", "firstThing", "I"), ("HeardPlaces", "firstCell", "I"), ("HeardPlaces", "secondThing", "I"), ("HeardPlaces", "secondCell", "I"), ("HeardPlaces", "isMet", "Z"), ("HeardPlaces", "map", "[I"), ("HeardPlaces", "flipWanted", "I"), ("HeardPlaces", "flipMany", "I"), ("HeardPlaces", "flipFirst", "I"), ("HeardPlaces", "flipSecond", "I"), ("HeardPlaces", "flipWay", "I"), ("HeardPlaces", "flipPart", "I"), ("HeardPlaces", "after", "[I"), ("HeardPlaces", "moverFirst", "[I"), ("HeardPlaces", "moverTicks", "[I"), ("HeardPlaces", "moverReach", "[I"), ("HeardPlaces", "moverMany", "I"), ("HeardPlaces", "ways", "[[J"), ("HeardPlaces", "isLied", "Z"), ("HeardPlaces", "liarMany", "I"), ("HeardPlaces", "liarSets", "I"), ("HeardPlaces", "inAll", "I"), ("HeardPlaces", "inSome", "I"), ("HeardPlaces", "images", "[LHeardPlaces$Image;"), ("HeardPlaces", "holds", "[LHeardPlaces$Place;"), ("HeardPlaces", "sheets", "[LHeardPlaces$Place;"), ("HeardPlacesModel", "fault", "I"), ("HeardPlacesModel", "wide", "I"), ("HeardPlacesModel", "high", "I"), ("HeardPlacesModel", "isWall", "[Z"), ("HeardPlacesModel", "things", "I"), ("HeardPlacesModel", "kind", "[I"), ("HeardPlacesModel", "at", "[I"), ("HeardPlacesModel", "boxes", "[I"), ("HeardPlacesModel", "isTrusted", "[Z"), ("HeardPlacesModel", "moverOf", "[I"), ("HeardPlacesModel", "tickOf", "[I"), ("HeardPlacesModel", "map", "[I"), ("HeardPlacesModel", "measures", "I"), ("HeardPlacesModel", "kindOf", "[I"), ("HeardPlacesModel", "one", "[I"), ("HeardPlacesModel", "two", "[I"), ("HeardPlacesModel", "pOf", "[I"), ("HeardPlacesModel", "qOf", "[I"), ("HeardPlacesModel", "isOn", "[Z"), ("HeardPlacesModel", "movers", "I"), ("HeardPlacesModel", "firstOfMover", "[I"), ("HeardPlacesModel", "ticks", "[I"), ("HeardPlacesModel", "reach", "[I"), ("HeardPlacesModel", "isAlone", "Z"), ("HeardPlacesModel", "isLaid", "[Z"), ("HeardPlacesModel", "isNarrowed", "Z"), ("HeardPlacesModel", "isJudged", "Z"), ("HeardPlacesModel", "isSought", "Z"), ("HeardPlacesModel", "hopOf", "[I"), ("HeardPlacesModel", "row", "[I"), ("HeardPlacesModel", "forth", "[J"), ("HeardPlacesModel", "back", "[J"), ("HeardPlacesModel", "isUsed", "[Z"), ("HeardPlacesModel", "left", "[J"), ("HeardPlacesModel", "cellsOf", "[J"), ("HeardPlacesModel", "quarrelMany", "I"), ("HeardPlacesModel", "isInQuarrel", "[Z"), ("HeardPlacesModel", "grouped", "I"), ("HeardPlacesModel", "member", "[I"), ("HeardPlacesModel", "stands", "[I"), ("HeardPlacesModel", "together", "[J"), ("HeardPlacesModel", "tried", "I"), ("HeardPlacesModel", "lastTrials", "I"), ("HeardPlacesModel", "found", "I"), ("HeardPlacesModel", "onCell", "[I"), ("HeardPlacesModel", "atFar", "[I"), ("HeardPlacesModel", "wanted", "I"), ("HeardPlacesModel", "wantedCells", "[I"), ("HeardPlacesModel", "pairA", "I"), ("HeardPlacesModel", "pairB", "I"), ("HeardPlacesModel", "pairCell", "I"), ("HeardPlacesModel", "pairOther", "I"), ("HeardPlacesModel", "isPair", "Z"), ("HeardPlacesModel", "group", "I"), ("HeardPlacesModel", "jointA", "I"), ("HeardPlacesModel", "jointB", "I"), ("HeardPlacesModel", "part", "I"), ("HeardPlacesModel", "turning", "I"), ("HeardPlacesModel", "flipMany", "I"), ("HeardPlacesModel", "flipWanted", "I"), ("HeardPlacesModel", "wantedA", "I"), ("HeardPlacesModel", "wantedB", "I"), ("HeardPlacesModel", "wantedPart", "I"), ("HeardPlacesModel", "wantedTurning", "I"), ("HeardPlacesModel", "wantedMoves", "I"), ("HeardPlacesModel", "turned", "[I"), ("HeardPlacesModel", "wantedTurned", "[I"), ("HeardPlacesModel", "goesOn", "[J"), ("HeardPlacesModel", "liarMany", "I"), ("HeardPlacesModel", "liarSets", "I"), ("HeardPlacesModel", "inSets", "[I"), ("HeardPlacesModel", "isKept", "[Z"), ("HeardPlacesModel", "image", "[I"), ("HeardPlacesModel", "heldWhat", "[I"), ("HeardPlacesModel", "heldNumber", "[I"), ("HeardPlacesModel", "heldKind", "[I"), ("HeardPlacesModel", "heldSum", "[I"), ("HeardPlacesModel", "heldMore", "[I"), ("HeardPlacesModel", "trace", "I"), ("HeardPlacesModel", "sheetSize", "[I"), ("HeardPlacesModel", "sheetLane", "[I"), ("HeardPlacesModel", "sheet", "[J"), ("HeardPlacesModel", "hands", "[J"), ("java/util/AbstractList", "modCount", "I"), ("java/util/ArrayList", "elementData", "[Ljava/lang/Object;"), ("java/util/ArrayList", "size", "I"), ("HeardPlaces$Place", "has", "Ljava/lang/Object;"), ("HeardPlaces$Measure", "number", "I"), ("HeardPlaces$Measure", "kind", "I"), ("HeardPlaces$Measure", "a", "I"), ("HeardPlaces$Measure", "b", "I"), ("HeardPlaces$Measure", "isOn", "Z"), ("HeardPlaces$Measure", "toB", "[J"), ("HeardPlaces$Measure", "toA", "[J"), ("HeardPlaces$Measure", "this$0", "LHeardPlaces;"), ("HeardPlaces$Side", "side", "I"), ("HeardPlaces$Side", "this$0", "LHeardPlaces;"), ("HeardPlaces$Far", "least", "I"), ("HeardPlaces$Far", "most", "I"), ("HeardPlaces$Far", "this$0", "LHeardPlaces;"), ("HeardPlaces$Hears", "this$0", "LHeardPlaces;"), ("HeardPlaces$Steps", "hops", "I"), ("HeardPlaces$Steps", "this$0", "LHeardPlaces;"), ("HeardPlaces$Image", "wide", "I"), ("HeardPlaces$Image", "high", "I"), ("HeardPlaces$Image", "walls", "J"), ("HeardPlaces$Image", "isAlone", "Z"), ("HeardPlaces$Image", "moverMany", "I"), ("HeardPlaces$Image", "things", "Ljava/util/List;"), ("HeardPlaces$Image", "measures", "Ljava/util/List;"), ("HeardPlaces$Image", "boxes", "[J"), ("HeardPlaces$Image", "isTrusted", "[Z"), ("HeardPlaces$Image", "isOn", "[Z"), ("HeardPlaces$Image", "map", "[I"), ("HeardPlaces$Image", "movers", "[I"), ("HeardPlaces$Image", "isKept", "Z"), ("HeardPlaces$Thing", "number", "I"), ("HeardPlaces$Thing", "box", "J"), ("HeardPlaces$Thing", "isTrusted", "Z"), ("HeardPlaces$Thing", "mover", "I"), ("HeardPlaces$Thing", "tick", "I"), ("HeardPlaces$Thing", "this$0", "LHeardPlaces;"), ("HeardPlaces$Anchor", "cell", "I"), ("HeardPlaces$Anchor", "this$0", "LHeardPlaces;"), ("HeardPlaces$Beacon", "this$0", "LHeardPlaces;"), ("HeardPlaces$Deaf", "this$0", "LHeardPlaces;")]
def fOwn (f : Nat) : String := (fN.getD f ("", "", "")).1
def fNam (f : Nat) : String := (fN.getD f ("", "", "")).2.1
def fDsc (f : Nat) : String := (fN.getD f ("", "", "")).2.2
set_option maxRecDepth 100000
theorem cTT_ok : ∀ t ∈ objT, ∀ k, k < nf t → (cTT t k).1 = fOwn (fdOf t k) ∧ (cTT t k).2.1 = fNam (fdOf t k) ∧ (cTT t k).2.2.1 = fDsc (fdOf t k) := by decide +kernel
def rtT0 : List (Option FieldType) := [some .boolean, none, some (.array (.object "HeardPlaces$Place")), some .int, some .boolean, none, some .int, some .boolean, some .int, some .int, some .boolean, some .long, some .long, some .long, some .long, some .int, some .boolean, none, none, some .int, some .long, some .long, some .int, some .boolean, some .boolean, some (.object "java/lang/Object"), some .long, some .int, some .long, some .int, some .int, some .int, some .int, some .boolean, some .boolean, some .int, none, none, none, some .boolean, some .long, some .int, some .int, some .int, some .long, some .int, some .int, some .int, some .boolean, some .boolean, some .int, some (.object "HeardPlaces$Measure"), some .int, some (.object "java/lang/Object"), some .int, some .int, some .int, some .boolean, some .int, none]
def rtT1 : List (Option FieldType) := [some .boolean, some .boolean, some .int, some .int, some .int, some .int, some .int, some .boolean, some .int, some .int, some .boolean, none, none, none, some .boolean, some .int, some .long, some .int, some .int, some .int, some .int, some .int, some .int, some .int, some .int, some .int, some .int, some .int, some .int, some .boolean, some .boolean, some .int, some .int, some .boolean, none, some .boolean, none, none, some .boolean, some .int, some .int, some .int, some .boolean, some .boolean, some .int, some .int, some .int, some .int, some .boolean, some .boolean, some .long, none, some .long, some .int, some .int, some .int, none, none, some .boolean, some .int]
def rtT2 : List (Option FieldType) := [some .int, some .boolean, some .int, some .int, some .boolean, some .int, some .int, some .int, some .int, none, some .int, some .int, some .int, some .int, some (.object "java/lang/Object"), some .int, some .int, none, some .long, some .long, some .int, some .int, some .int, some .int, some .int, none, some .int, some .boolean, none, none, some .int, some .boolean, some .boolean, some .int, some .boolean, some .int, some .int, some .boolean, some .int, some .boolean, some .int, some .int, some .int, some .boolean, some .long, some .int, some .int, none, none, some .boolean, none, none, none, some .int, some .boolean, some .boolean, some .int, some .boolean, some .boolean, some .boolean]
def rtT3 : List (Option FieldType) := [some .int, some .int, some .int, some .long, some .int, some .int, some .boolean, some .int, some .int, some .int, some .boolean, some .int, some .int, none, some .int, some .int, some .int, some .int, some .int, some .boolean, some .boolean, none, some .boolean, some .boolean, none, some .int, some .int, some .int, some .int, some .int, some .int, some .int, some .int, some .int, some .int, some .int, some .int, some .int, some .boolean, some .int, some .boolean, none, some .boolean, none, some .int, some .boolean, some .boolean, some .int, some .int, some .int, none, some .int, some .int, some .int, some .int, some .int, some .boolean, some .long, some .long, none]
def rtT4 : List (Option FieldType) := [some .long, some .int, some .int, some .int, none, some .boolean, none, some .boolean, some .int, some .int, some .int, some .int, some .int, some .boolean, some .int, some .int, some .boolean, some .int, some .int, some .int, none, some .int, some .int, some .int, some .int, some .int, some .int, some .int, some .int, some .long, some .long, some .int, some .int, some .int, some .int, some .int, none, some .boolean, some .long, none, some .int, some .boolean, some .int, some .int, some .int, some .boolean, some .long, none, some .int, some .int, none, some .int, some .boolean, some .int, some .int, none, some .boolean, none, none, some .int]
def rtT5 : List (Option FieldType) := [some .int, some .int, some .long, some .int, some .int, some .int, none, some .boolean, some .int, some .int, some .int, some .int, none, some .int, some .int, none, some .boolean, some .int, none, some .boolean, some .int, none, none, none, some .boolean, some .int, some .int, some .int, none, some .int, some .int, none, none, none, none, some .int, some (.object "java/lang/Object"), some (.object "java/lang/Object"), some .boolean, none, some (.array (.object "java/lang/Object")), some (.array (.object "java/lang/Object")), some .boolean, some (.array (.object "java/lang/Object")), none, some (.array (.object "java/lang/Object")), some (.array (.object "java/lang/Object")), some .int, some .int, some .int, some .int, some .int, some .int, some .int, some .int, some .int, some .int]
def rtT : List (Option FieldType) := rtT0 ++ (rtT1 ++ (rtT2 ++ (rtT3 ++ (rtT4 ++ (rtT5)))))
def mrt (y : Nat) : Option FieldType := rtT.getD y none
def initT : List Nat := [1, 145, 276, 279, 287, 290, 297, 306, 312, 315, 318, 323, 328, 331, 332, 333]
def minit (y : Nat) : Bool := initT.contains y
def nmT0 : List MethodName := [⟨"HeardPlacesLaw", "law", "([I)Z"⟩, ⟨"HeardPlaces", "<init>", "()V"⟩, ⟨"HeardPlaces", "places", "(I)[LHeardPlaces$Place;"⟩, ⟨"HeardPlaces", "field", "(II)I"⟩, ⟨"HeardPlaces", "isIn", "(JJJ)Z"⟩, ⟨"HeardPlaces", "changes", "()V"⟩, ⟨"HeardPlaces", "wall", "(IZ)I"⟩, ⟨"HeardPlaces", "isCell", "(I)Z"⟩, ⟨"HeardPlaces", "xOf", "(I)I"⟩, ⟨"HeardPlaces", "yOf", "(I)I"⟩, ⟨"HeardPlaces", "isPlace", "(II)Z"⟩, ⟨"HeardPlaces", "known", "(I)J"⟩, ⟨"HeardPlaces", "bit", "(I)J"⟩, ⟨"HeardPlaces", "free", "()J"⟩, ⟨"HeardPlaces", "all", "()J"⟩, ⟨"HeardPlaces", "cellAt", "(II)I"⟩, ⟨"HeardPlaces", "isOn", "(JI)Z"⟩, ⟨"HeardPlaces", "wallsBecome", "(J)V"⟩, ⟨"HeardPlaces", "layHops", "(I)V"⟩, ⟨"HeardPlaces", "far", "(II)I"⟩, ⟨"HeardPlaces", "hopped", "(II)J"⟩, ⟨"HeardPlaces", "hopOn", "(JJ)J"⟩, ⟨"HeardPlaces", "plan", "(III)I"⟩, ⟨"HeardPlaces", "isSheet", "(I)Z"⟩, ⟨"HeardPlaces", "isLane", "(I)Z"⟩, ⟨"HeardPlaces", "asLane", "(Ljava/lang/Object;I)Ljava/lang/Object;"⟩, ⟨"HeardPlaces", "wallsBy", "(Ljava/lang/Object;I)J"⟩, ⟨"HeardPlaces", "lengthOf", "(Ljava/lang/Object;)I"⟩, ⟨"HeardPlaces", "cellOf", "(Ljava/lang/Object;I)J"⟩, ⟨"HeardPlaces", "faulty", "(I)I"⟩, ⟨"HeardPlaces", "thing", "(II)I"⟩, ⟨"HeardPlaces", "comes", "(LHeardPlaces$Thing;)I"⟩, ⟨"HeardPlaces", "box", "(IIIII)I"⟩, ⟨"HeardPlaces", "isThing", "(I)Z"⟩, ⟨"HeardPlaces", "isEdge", "(I)Z"⟩, ⟨"HeardPlaces", "about", "(II)I"⟩, ⟨"HeardPlaces", "narrow", "()V"⟩, ⟨"HeardPlaces", "askAll", "()V"⟩, ⟨"HeardPlaces", "settle", "([J)V"⟩, ⟨"HeardPlaces", "isLess", "(LHeardPlaces$Measure;[J)Z"⟩, ⟨"HeardPlaces", "left", "(JJ[J)J"⟩, ⟨"HeardPlaces", "firstOf", "(J)I"⟩, ⟨"HeardPlaces", "measuresOf", "(I)I"⟩, ⟨"HeardPlaces", "can", "(III)I"⟩, ⟨"HeardPlaces", "cells", "(I)J"⟩, ⟨"HeardPlaces", "hops", "(III)I"⟩, ⟨"HeardPlaces", "hopsOf", "(III)I"⟩, ⟨"HeardPlaces", "measure", "(IIIII)I"⟩, ⟨"HeardPlaces", "mayMeasure", "(III)Z"⟩, ⟨"HeardPlaces", "isDistance", "(I)Z"⟩, ⟨"HeardPlaces", "lays", "(IIIII)I"⟩, ⟨"HeardPlaces", "made", "(IIIII)LHeardPlaces$Measure;"⟩, ⟨"HeardPlaces", "measures", "(IIII)I"⟩, ⟨"HeardPlaces", "askedFor", "(Ljava/lang/Object;I)Ljava/lang/Object;"⟩, ⟨"HeardPlaces", "comeFrom", "(Ljava/lang/Object;II)I"⟩, ⟨"HeardPlaces", "oneOf", "(Ljava/lang/Object;I)I"⟩, ⟨"HeardPlaces", "turn", "(IZ)I"⟩, ⟨"HeardPlaces", "isMeasure", "(I)Z"⟩, ⟨"HeardPlaces", "told", "(II)I"⟩, ⟨"HeardPlaces", "findQuarrel", "()V"⟩]
def nmT1 : List MethodName := [⟨"HeardPlaces", "isEmpty", "([J)Z"⟩, ⟨"HeardPlaces", "isStillQuarrel", "()Z"⟩, ⟨"HeardPlaces", "keeps", "(III)I"⟩, ⟨"HeardPlaces", "quarrel", "()I"⟩, ⟨"HeardPlaces", "group", "(I)I"⟩, ⟨"HeardPlaces", "groupOf", "(I)I"⟩, ⟨"HeardPlaces", "comeTo", "(II)I"⟩, ⟨"HeardPlaces", "isJoining", "(LHeardPlaces$Measure;)Z"⟩, ⟨"HeardPlaces", "alone", "(Z)I"⟩, ⟨"HeardPlaces", "placings", "(I)I"⟩, ⟨"HeardPlaces", "isPlaced", "(I)Z"⟩, ⟨"HeardPlaces", "place", "(I)V"⟩, ⟨"HeardPlaces", "seek", "(I)V"⟩, ⟨"HeardPlaces", "note", "()V"⟩, ⟨"HeardPlaces", "hasAt", "(II)Z"⟩, ⟨"HeardPlaces", "placeOf", "(I)I"⟩, ⟨"HeardPlaces", "allowed", "(I)J"⟩, ⟨"HeardPlaces", "trials", "()I"⟩, ⟨"HeardPlaces", "nth", "(II)I"⟩, ⟨"HeardPlaces", "look", "(II)I"⟩, ⟨"HeardPlaces", "sure", "(I)I"⟩, ⟨"HeardPlaces", "could", "(I)I"⟩, ⟨"HeardPlaces", "together", "(IIII)I"⟩, ⟨"HeardPlaces", "ask", "(II)I"⟩, ⟨"HeardPlaces", "most", "([I)I"⟩, ⟨"HeardPlaces", "between", "(II)I"⟩, ⟨"HeardPlaces", "put", "(II)I"⟩, ⟨"HeardPlaces", "take", "(II)I"⟩, ⟨"HeardPlaces", "check", "()I"⟩, ⟨"HeardPlaces", "isShared", "(I)Z"⟩, ⟨"HeardPlaces", "isKeptOnMap", "(LHeardPlaces$Measure;)Z"⟩, ⟨"HeardPlaces", "flips", "(I)I"⟩, ⟨"HeardPlaces", "lookAtFlip", "(II)I"⟩, ⟨"HeardPlaces", "isOnMap", "(I)Z"⟩, ⟨"HeardPlaces", "flipAll", "(II)V"⟩, ⟨"HeardPlaces", "mayJoint", "(II)Z"⟩, ⟨"HeardPlaces", "flipAt", "(III)V"⟩, ⟨"HeardPlaces", "flipOne", "(III)V"⟩, ⟨"HeardPlaces", "doesHang", "(III)Z"⟩, ⟨"HeardPlaces", "turned", "(III)I"⟩, ⟨"HeardPlaces", "turnedX", "(III)I"⟩, ⟨"HeardPlaces", "turnedY", "(III)I"⟩, ⟨"HeardPlaces", "areTurned", "(III)Z"⟩, ⟨"HeardPlaces", "isKeptAfter", "(I)Z"⟩, ⟨"HeardPlaces", "flip", "(III)I"⟩, ⟨"HeardPlaces", "flipped", "(II)I"⟩, ⟨"HeardPlaces", "mover", "(II)I"⟩, ⟨"HeardPlaces", "tick", "(II)I"⟩, ⟨"HeardPlaces", "isTick", "(II)Z"⟩, ⟨"HeardPlaces", "isMover", "(I)Z"⟩, ⟨"HeardPlaces", "ways", "(I)J"⟩, ⟨"HeardPlaces", "findWays", "(I)V"⟩, ⟨"HeardPlaces", "sum", "([J)J"⟩, ⟨"HeardPlaces", "way", "(IJI)I"⟩, ⟨"HeardPlaces", "trust", "(IZ)I"⟩, ⟨"HeardPlaces", "liars", "(I)I"⟩, ⟨"HeardPlaces", "findLiars", "()V"⟩, ⟨"HeardPlaces", "noteLiars", "(I)V"⟩, ⟨"HeardPlaces", "isPeace", "(I)Z"⟩, ⟨"HeardPlaces", "lies", "(I)I"⟩]
def nmT2 : List MethodName := [⟨"HeardPlaces", "keep", "(I)I"⟩, ⟨"HeardPlaces", "isImage", "(I)Z"⟩, ⟨"HeardPlaces", "back", "(I)I"⟩, ⟨"HeardPlaces", "hold", "(III)I"⟩, ⟨"HeardPlaces", "isHold", "(I)Z"⟩, ⟨"HeardPlaces", "loose", "(I)I"⟩, ⟨"HeardPlaces", "as", "(II)I"⟩, ⟨"HeardPlaces", "numberOf", "(Ljava/lang/Object;I)I"⟩, ⟨"HeardPlaces", "tell", "(II)I"⟩, ⟨"HeardPlaces", "begins", "(I)V"⟩, ⟨"HeardPlaces", "greet", "(II)I"⟩, ⟨"HeardPlaces", "greeted", "(LHeardPlaces$Stands;)I"⟩, ⟨"HeardPlaces", "weighed", "(LHeardPlaces$Weighs;)I"⟩, ⟨"HeardPlaces", "sheet", "(III)I"⟩, ⟨"HeardPlaces", "row", "(II)Ljava/lang/Object;"⟩, ⟨"HeardPlaces", "lose", "(I)I"⟩, ⟨"HeardPlaces", "lay", "(IIJ)I"⟩, ⟨"HeardPlaces", "write", "(Ljava/lang/Object;IJ)V"⟩, ⟨"HeardPlaces", "cell", "(III)J"⟩, ⟨"HeardPlaces", "lost", "(I)J"⟩, ⟨"HeardPlaces", "copy", "(IIIII)I"⟩, ⟨"HeardPlaces", "trace", "()I"⟩, ⟨"HeardPlaces", "fault", "()I"⟩, ⟨"HeardPlaces", "many", "(I)I"⟩, ⟨"HeardPlaces", "manyNarrowed", "(Z)I"⟩, ⟨"HeardPlacesModel", "<init>", "()V"⟩, ⟨"HeardPlacesModel", "field", "(II)I"⟩, ⟨"HeardPlacesModel", "in", "(JJJ)Z"⟩, ⟨"HeardPlacesModel", "otherField", "()V"⟩, ⟨"HeardPlacesModel", "other", "()V"⟩, ⟨"HeardPlacesModel", "wall", "(IZ)I"⟩, ⟨"HeardPlacesModel", "isCell", "(I)Z"⟩, ⟨"HeardPlacesModel", "isAnchorAt", "(I)Z"⟩, ⟨"HeardPlacesModel", "plan", "(III)I"⟩, ⟨"HeardPlacesModel", "noSheet", "(I)Z"⟩, ⟨"HeardPlacesModel", "refused", "(I)I"⟩, ⟨"HeardPlacesModel", "failed", "(I)I"⟩, ⟨"HeardPlacesModel", "isBeyond", "(IJI)Z"⟩, ⟨"HeardPlacesModel", "freeCells", "()I"⟩, ⟨"HeardPlacesModel", "isFree", "(I)Z"⟩, ⟨"HeardPlacesModel", "thing", "(II)I"⟩, ⟨"HeardPlacesModel", "addThing", "(IIII)I"⟩, ⟨"HeardPlacesModel", "box", "(IIIII)I"⟩, ⟨"HeardPlacesModel", "noThing", "(I)Z"⟩, ⟨"HeardPlacesModel", "toldOf", "(I)J"⟩, ⟨"HeardPlacesModel", "count", "(J)I"⟩, ⟨"HeardPlacesModel", "about", "(II)I"⟩, ⟨"HeardPlacesModel", "findNarrowed", "()V"⟩, ⟨"HeardPlacesModel", "useAll", "()V"⟩, ⟨"HeardPlacesModel", "narrow", "()Z"⟩, ⟨"HeardPlacesModel", "layAll", "()V"⟩, ⟨"HeardPlacesModel", "layMeasure", "(I)V"⟩, ⟨"HeardPlacesModel", "hopFrom", "(II)V"⟩, ⟨"HeardPlacesModel", "distance", "(II)I"⟩, ⟨"HeardPlacesModel", "isKept", "(III)Z"⟩, ⟨"HeardPlacesModel", "isOnSide", "(III)Z"⟩, ⟨"HeardPlacesModel", "sizeOf", "(I)I"⟩, ⟨"HeardPlacesModel", "narrowOne", "(I)Z"⟩, ⟨"HeardPlacesModel", "hasBit", "(JI)Z"⟩, ⟨"HeardPlacesModel", "differs", "(JJ)Z"⟩]
def nmT3 : List MethodName := [⟨"HeardPlacesModel", "firstOf", "(J)I"⟩, ⟨"HeardPlacesModel", "onOf", "(I)I"⟩, ⟨"HeardPlacesModel", "can", "(III)I"⟩, ⟨"HeardPlacesModel", "cells", "(I)J"⟩, ⟨"HeardPlacesModel", "hops", "(III)I"⟩, ⟨"HeardPlacesModel", "measure", "(IIIII)I"⟩, ⟨"HeardPlacesModel", "isMeasure", "(III)Z"⟩, ⟨"HeardPlacesModel", "addMeasure", "(IIIII)I"⟩, ⟨"HeardPlacesModel", "measures", "(IIII)I"⟩, ⟨"HeardPlacesModel", "turn", "(IZ)I"⟩, ⟨"HeardPlacesModel", "noMeasure", "(I)Z"⟩, ⟨"HeardPlacesModel", "keeps", "(III)I"⟩, ⟨"HeardPlacesModel", "quarrel", "()I"⟩, ⟨"HeardPlacesModel", "judge", "()V"⟩, ⟨"HeardPlacesModel", "told", "(II)I"⟩, ⟨"HeardPlacesModel", "group", "(I)I"⟩, ⟨"HeardPlacesModel", "groupOf", "(I)I"⟩, ⟨"HeardPlacesModel", "alone", "(Z)I"⟩, ⟨"HeardPlacesModel", "placings", "(I)I"⟩, ⟨"HeardPlacesModel", "searchFor", "(II)Z"⟩, ⟨"HeardPlacesModel", "search", "(I)Z"⟩, ⟨"HeardPlacesModel", "layPairs", "()V"⟩, ⟨"HeardPlacesModel", "stays", "(I)Z"⟩, ⟨"HeardPlacesModel", "isOtherAnchorAt", "(I)Z"⟩, ⟨"HeardPlacesModel", "tally", "()V"⟩, ⟨"HeardPlacesModel", "trials", "()I"⟩, ⟨"HeardPlacesModel", "nth", "(II)I"⟩, ⟨"HeardPlacesModel", "placeOf", "(I)I"⟩, ⟨"HeardPlacesModel", "sure", "(I)I"⟩, ⟨"HeardPlacesModel", "could", "(I)I"⟩, ⟨"HeardPlacesModel", "cellsHad", "(I)I"⟩, ⟨"HeardPlacesModel", "together", "(IIII)I"⟩, ⟨"HeardPlacesModel", "ask", "(II)I"⟩, ⟨"HeardPlacesModel", "greater", "(II)I"⟩, ⟨"HeardPlacesModel", "between", "(II)I"⟩, ⟨"HeardPlacesModel", "put", "(II)I"⟩, ⟨"HeardPlacesModel", "take", "(II)I"⟩, ⟨"HeardPlacesModel", "check", "()I"⟩, ⟨"HeardPlacesModel", "hasLesserThere", "(I)Z"⟩, ⟨"HeardPlacesModel", "flips", "(I)I"⟩, ⟨"HeardPlacesModel", "isPlaced", "(I)Z"⟩, ⟨"HeardPlacesModel", "goThroughFlips", "(II)V"⟩, ⟨"HeardPlacesModel", "mayBeJoint", "(I)Z"⟩, ⟨"HeardPlacesModel", "tryJoints", "()V"⟩, ⟨"HeardPlacesModel", "partOf", "(I)I"⟩, ⟨"HeardPlacesModel", "isHinged", "()Z"⟩, ⟨"HeardPlacesModel", "isJoint", "(I)Z"⟩, ⟨"HeardPlacesModel", "movesBy", "()I"⟩, ⟨"HeardPlacesModel", "turnedCell", "(I)I"⟩, ⟨"HeardPlacesModel", "cellThen", "(I)I"⟩, ⟨"HeardPlacesModel", "keepFlip", "(I)V"⟩, ⟨"HeardPlacesModel", "flip", "(III)I"⟩, ⟨"HeardPlacesModel", "seek", "(II)I"⟩, ⟨"HeardPlacesModel", "flipped", "(II)I"⟩, ⟨"HeardPlacesModel", "mover", "(II)I"⟩, ⟨"HeardPlacesModel", "tick", "(II)I"⟩, ⟨"HeardPlacesModel", "noTick", "(II)Z"⟩, ⟨"HeardPlacesModel", "ways", "(I)J"⟩, ⟨"HeardPlacesModel", "waysOf", "(I)J"⟩, ⟨"HeardPlacesModel", "layWays", "(I)V"⟩]
def nmT4 : List MethodName := [⟨"HeardPlacesModel", "lost", "()J"⟩, ⟨"HeardPlacesModel", "way", "(IJI)I"⟩, ⟨"HeardPlacesModel", "trust", "(IZ)I"⟩, ⟨"HeardPlacesModel", "liars", "(I)I"⟩, ⟨"HeardPlacesModel", "seekLiars", "()V"⟩, ⟨"HeardPlacesModel", "isQuietWithout", "(II)Z"⟩, ⟨"HeardPlacesModel", "countSet", "(II)V"⟩, ⟨"HeardPlacesModel", "mayLie", "(I)Z"⟩, ⟨"HeardPlacesModel", "lies", "(I)I"⟩, ⟨"HeardPlacesModel", "keep", "(I)I"⟩, ⟨"HeardPlacesModel", "asNumber", "(Z)I"⟩, ⟨"HeardPlacesModel", "back", "(I)I"⟩, ⟨"HeardPlacesModel", "hold", "(III)I"⟩, ⟨"HeardPlacesModel", "noHold", "(I)Z"⟩, ⟨"HeardPlacesModel", "loose", "(I)I"⟩, ⟨"HeardPlacesModel", "as", "(II)I"⟩, ⟨"HeardPlacesModel", "isTaken", "(II)Z"⟩, ⟨"HeardPlacesModel", "tell", "(II)I"⟩, ⟨"HeardPlacesModel", "faultOf", "(II)I"⟩, ⟨"HeardPlacesModel", "tellThing", "(I)I"⟩, ⟨"HeardPlacesModel", "traced", "(I)V"⟩, ⟨"HeardPlacesModel", "tellMeasure", "(I)I"⟩, ⟨"HeardPlacesModel", "greet", "(II)I"⟩, ⟨"HeardPlacesModel", "greetThing", "(I)I"⟩, ⟨"HeardPlacesModel", "weighMeasure", "(I)I"⟩, ⟨"HeardPlacesModel", "sheet", "(III)I"⟩, ⟨"HeardPlacesModel", "lose", "(I)I"⟩, ⟨"HeardPlacesModel", "lay", "(IIJ)I"⟩, ⟨"HeardPlacesModel", "noCell", "(II)I"⟩, ⟨"HeardPlacesModel", "cell", "(III)J"⟩, ⟨"HeardPlacesModel", "failedLong", "(I)J"⟩, ⟨"HeardPlacesModel", "copy", "(IIIII)I"⟩, ⟨"HeardPlacesModel", "trace", "()I"⟩, ⟨"HeardPlacesModel", "fault", "()I"⟩, ⟨"HeardPlacesModel", "many", "(I)I"⟩, ⟨"HeardPlacesModel", "counted", "(I)I"⟩, ⟨"HeardPlaces$Place", "<init>", "()V"⟩, ⟨"HeardPlaces$Thing", "isKnown", "()Z"⟩, ⟨"HeardPlaces$Thing", "told", "()J"⟩, ⟨"HeardPlaces$Thing", "<init>", "(LHeardPlaces;III)V"⟩, ⟨"HeardPlaces$Thing", "kind", "()I"⟩, ⟨"HeardPlaces$Thing", "mayLie", "()Z"⟩, ⟨"HeardPlaces$Thing", "plain", "()I"⟩, ⟨"HeardPlaces$Thing", "tell", "()I"⟩, ⟨"HeardPlaces$Thing", "usual", "()I"⟩, ⟨"HeardPlaces$Anchor", "isKnown", "()Z"⟩, ⟨"HeardPlaces$Anchor", "told", "()J"⟩, ⟨"HeardPlaces$Anchor", "<init>", "(LHeardPlaces;II)V"⟩, ⟨"HeardPlaces$Anchor", "kind", "()I"⟩, ⟨"HeardPlaces$Anchor", "tell", "()I"⟩, ⟨"HeardPlaces$Beacon", "<init>", "(LHeardPlaces;II)V"⟩, ⟨"HeardPlaces$Beacon", "kind", "()I"⟩, ⟨"HeardPlaces$Beacon", "mayLie", "()Z"⟩, ⟨"HeardPlaces$Beacon", "tell", "()I"⟩, ⟨"HeardPlaces$Beacon", "greet", "()I"⟩, ⟨"HeardPlaces$Measure", "makeAnew", "()V"⟩, ⟨"HeardPlaces$Measure", "isOf", "(I)Z"⟩, ⟨"HeardPlaces$Measure", "<init>", "(LHeardPlaces;III)V"⟩, ⟨"HeardPlaces$Measure", "make", "()V"⟩, ⟨"HeardPlaces$Measure", "p", "()I"⟩]
def nmT5 : List MethodName := [⟨"HeardPlaces$Measure", "q", "()I"⟩, ⟨"HeardPlaces$Measure", "other", "(I)I"⟩, ⟨"HeardPlaces$Measure", "with", "(II)J"⟩, ⟨"HeardPlaces$Measure", "sum", "()I"⟩, ⟨"HeardPlaces$Measure", "tell", "()I"⟩, ⟨"HeardPlaces$Measure", "usual", "()I"⟩, ⟨"HeardPlaces$Far", "<init>", "(LHeardPlaces;IIIII)V"⟩, ⟨"HeardPlaces$Far", "isKept", "(II)Z"⟩, ⟨"HeardPlaces$Far", "p", "()I"⟩, ⟨"HeardPlaces$Far", "q", "()I"⟩, ⟨"HeardPlaces$Far", "tell", "()I"⟩, ⟨"HeardPlaces$Far", "farTold", "()I"⟩, ⟨"HeardPlaces$Hears", "<init>", "(LHeardPlaces;IIII)V"⟩, ⟨"HeardPlaces$Hears", "tell", "()I"⟩, ⟨"HeardPlaces$Hears", "weigh", "()I"⟩, ⟨"HeardPlaces$Deaf", "<init>", "(LHeardPlaces;III)V"⟩, ⟨"HeardPlaces$Deaf", "isKept", "(II)Z"⟩, ⟨"HeardPlaces$Deaf", "tell", "()I"⟩, ⟨"HeardPlaces$Side", "<init>", "(LHeardPlaces;III)V"⟩, ⟨"HeardPlaces$Side", "isKept", "(II)Z"⟩, ⟨"HeardPlaces$Side", "p", "()I"⟩, ⟨"HeardPlaces$Steps", "makeAnew", "()V"⟩, ⟨"HeardPlaces$Steps", "make", "()V"⟩, ⟨"HeardPlaces$Steps", "<init>", "(LHeardPlaces;IIII)V"⟩, ⟨"HeardPlaces$Steps", "isKept", "(II)Z"⟩, ⟨"HeardPlaces$Steps", "p", "()I"⟩, ⟨"HeardPlaces$Steps", "tell", "()I"⟩, ⟨"HeardPlaces$Steps", "weigh", "()I"⟩, ⟨"HeardPlaces$Image", "<init>", "()V"⟩, ⟨"HeardPlaces$Stands", "greet", "()I"⟩, ⟨"HeardPlaces$Weighs", "weigh", "()I"⟩, ⟨"java/util/AbstractCollection", "<init>", "()V"⟩, ⟨"java/util/AbstractList", "<init>", "()V"⟩, ⟨"java/util/ArrayList", "<init>", "()V"⟩, ⟨"java/util/ArrayList", "clear", "()V"⟩, ⟨"java/util/ArrayList", "size", "()I"⟩, ⟨"java/util/ArrayList", "get", "(I)Ljava/lang/Object;"⟩, ⟨"java/util/ArrayList", "elementData", "(I)Ljava/lang/Object;"⟩, ⟨"java/util/ArrayList", "add", "(Ljava/lang/Object;)Z"⟩, ⟨"java/util/ArrayList", "add", "(Ljava/lang/Object;[Ljava/lang/Object;I)V"⟩, ⟨"java/util/ArrayList", "grow", "()[Ljava/lang/Object;"⟩, ⟨"java/util/ArrayList", "grow", "(I)[Ljava/lang/Object;"⟩, ⟨"java/util/ArrayList", "addAll", "(Ljava/util/Collection;)Z"⟩, ⟨"java/util/ArrayList", "toArray", "()[Ljava/lang/Object;"⟩, ⟨"java/util/Arrays", "fill", "([II)V"⟩, ⟨"java/util/Arrays", "copyOf", "([Ljava/lang/Object;I)[Ljava/lang/Object;"⟩, ⟨"java/util/Arrays", "copyOf", "([Ljava/lang/Object;ILjava/lang/Class;)[Ljava/lang/Object;"⟩, ⟨"java/util/Objects", "checkIndex", "(II)I"⟩, ⟨"jdk/internal/util/Preconditions", "checkIndex", "(IILjava/util/function/BiFunction;)I"⟩, ⟨"java/lang/Long", "numberOfTrailingZeros", "(J)I"⟩, ⟨"java/lang/Long", "bitCount", "(J)I"⟩, ⟨"java/lang/Integer", "numberOfTrailingZeros", "(I)I"⟩, ⟨"java/lang/Integer", "bitCount", "(I)I"⟩, ⟨"jdk/internal/util/ArraysSupport", "newLength", "(III)I"⟩, ⟨"java/lang/Math", "max", "(II)I"⟩, ⟨"java/lang/Math", "min", "(II)I"⟩, ⟨"java/lang/Math", "abs", "(I)I"⟩]
def nmT : List MethodName := nmT0 ++ (nmT1 ++ (nmT2 ++ (nmT3 ++ (nmT4 ++ (nmT5)))))
def mnm (y : Nat) : MethodName := nmT.getD y ⟨"", "", ""⟩
/-- the entry k of class c is the field f -/
def FLf (c k f : Nat) : Prop := (∃ ref : String, Cond.fieldLink (cnm c) k ref (fNam f) (fDsc f) ∈ lw_all ∧ (ref = fOwn f ∨ Cond.sameField ref (fOwn f) (fNam f) (fDsc f) ∈ lw_all)) ∨ ∃ host : String, Cond.fieldLinkNest (cnm c) k (fOwn f) (fNam f) (fDsc f) host ∈ lw_tbl
theorem fl_19_7 : FLf 19 7 138 := Or.inl ⟨_, q187, Or.inl rfl⟩
theorem fl_16_9 : FLf 16 9 139 := Or.inl ⟨_, q185, Or.inl rfl⟩
theorem fl_16_48 : FLf 16 48 140 := Or.inl ⟨_, q186, Or.inl rfl⟩
theorem fl_16_63 : FLf 16 63 138 := Or.inl ⟨_, q188, Or.inr q189⟩
theorem fl_0_247 : FLf 0 247 141 := Or.inr ⟨_, q217⟩
theorem fl_0_115 : FLf 0 115 0 := Or.inl ⟨_, q223, Or.inl rfl⟩
theorem fl_0_120 : FLf 0 120 1 := Or.inl ⟨_, q224, Or.inl rfl⟩
theorem fl_0_11 : FLf 0 11 2 := Or.inl ⟨_, q225, Or.inl rfl⟩
theorem fl_0_15 : FLf 0 15 3 := Or.inl ⟨_, q226, Or.inl rfl⟩
theorem fl_0_152 : FLf 0 152 4 := Or.inl ⟨_, q227, Or.inl rfl⟩
theorem fl_0_18 : FLf 0 18 5 := Or.inl ⟨_, q228, Or.inl rfl⟩
theorem fl_0_25 : FLf 0 25 6 := Or.inl ⟨_, q229, Or.inl rfl⟩
theorem fl_0_29 : FLf 0 29 7 := Or.inl ⟨_, q231, Or.inl rfl⟩
theorem fl_0_32 : FLf 0 32 8 := Or.inl ⟨_, q232, Or.inl rfl⟩
theorem fl_0_35 : FLf 0 35 9 := Or.inl ⟨_, q233, Or.inl rfl⟩
theorem fl_0_38 : FLf 0 38 10 := Or.inl ⟨_, q234, Or.inl rfl⟩
theorem fl_0_422 : FLf 0 422 11 := Or.inl ⟨_, q235, Or.inl rfl⟩
theorem fl_0_425 : FLf 0 425 12 := Or.inl ⟨_, q236, Or.inl rfl⟩
theorem fl_0_416 : FLf 0 416 13 := Or.inl ⟨_, q237, Or.inl rfl⟩
theorem fl_0_42 : FLf 0 42 14 := Or.inl ⟨_, q238, Or.inl rfl⟩
theorem fl_0_453 : FLf 0 453 15 := Or.inl ⟨_, q239, Or.inl rfl⟩
theorem fl_0_207 : FLf 0 207 16 := Or.inl ⟨_, q240, Or.inl rfl⟩
theorem fl_0_45 : FLf 0 45 17 := Or.inl ⟨_, q241, Or.inl rfl⟩
theorem fl_0_49 : FLf 0 49 18 := Or.inl ⟨_, q242, Or.inl rfl⟩
theorem fl_0_472 : FLf 0 472 19 := Or.inl ⟨_, q243, Or.inl rfl⟩
theorem fl_0_509 : FLf 0 509 20 := Or.inl ⟨_, q244, Or.inl rfl⟩
theorem fl_0_518 : FLf 0 518 21 := Or.inl ⟨_, q245, Or.inl rfl⟩
theorem fl_0_538 : FLf 0 538 22 := Or.inl ⟨_, q246, Or.inl rfl⟩
theorem fl_0_469 : FLf 0 469 23 := Or.inl ⟨_, q247, Or.inl rfl⟩
theorem fl_0_52 : FLf 0 52 24 := Or.inl ⟨_, q248, Or.inl rfl⟩
theorem fl_0_57 : FLf 0 57 25 := Or.inl ⟨_, q249, Or.inl rfl⟩
theorem fl_0_60 : FLf 0 60 26 := Or.inl ⟨_, q250, Or.inl rfl⟩
theorem fl_0_63 : FLf 0 63 27 := Or.inl ⟨_, q251, Or.inl rfl⟩
theorem fl_0_66 : FLf 0 66 28 := Or.inl ⟨_, q252, Or.inl rfl⟩
theorem fl_0_484 : FLf 0 484 29 := Or.inl ⟨_, q253, Or.inl rfl⟩
theorem fl_0_487 : FLf 0 487 30 := Or.inl ⟨_, q254, Or.inl rfl⟩
theorem fl_0_493 : FLf 0 493 31 := Or.inl ⟨_, q255, Or.inl rfl⟩
theorem fl_0_496 : FLf 0 496 32 := Or.inl ⟨_, q256, Or.inl rfl⟩
theorem fl_0_481 : FLf 0 481 33 := Or.inl ⟨_, q257, Or.inl rfl⟩
theorem fl_0_69 : FLf 0 69 34 := Or.inl ⟨_, q258, Or.inl rfl⟩
theorem fl_0_578 : FLf 0 578 35 := Or.inl ⟨_, q259, Or.inl rfl⟩
theorem fl_0_575 : FLf 0 575 36 := Or.inl ⟨_, q260, Or.inl rfl⟩
theorem fl_0_581 : FLf 0 581 37 := Or.inl ⟨_, q261, Or.inl rfl⟩
theorem fl_0_584 : FLf 0 584 38 := Or.inl ⟨_, q262, Or.inl rfl⟩
theorem fl_0_587 : FLf 0 587 39 := Or.inl ⟨_, q263, Or.inl rfl⟩
theorem fl_0_590 : FLf 0 590 40 := Or.inl ⟨_, q264, Or.inl rfl⟩
theorem fl_0_78 : FLf 0 78 41 := Or.inl ⟨_, q265, Or.inl rfl⟩
theorem fl_0_81 : FLf 0 81 42 := Or.inl ⟨_, q266, Or.inl rfl⟩
theorem fl_0_84 : FLf 0 84 43 := Or.inl ⟨_, q267, Or.inl rfl⟩
theorem fl_0_87 : FLf 0 87 44 := Or.inl ⟨_, q268, Or.inl rfl⟩
theorem fl_0_204 : FLf 0 204 45 := Or.inl ⟨_, q269, Or.inl rfl⟩
theorem fl_0_92 : FLf 0 92 46 := Or.inl ⟨_, q270, Or.inl rfl⟩
theorem fl_0_428 : FLf 0 428 47 := Or.inl ⟨_, q271, Or.inl rfl⟩
theorem fl_0_95 : FLf 0 95 48 := Or.inl ⟨_, q272, Or.inl rfl⟩
theorem fl_0_631 : FLf 0 631 49 := Or.inl ⟨_, q273, Or.inl rfl⟩
theorem fl_0_634 : FLf 0 634 50 := Or.inl ⟨_, q274, Or.inl rfl⟩
theorem fl_0_637 : FLf 0 637 51 := Or.inl ⟨_, q275, Or.inl rfl⟩
theorem fl_0_100 : FLf 0 100 52 := Or.inl ⟨_, q276, Or.inl rfl⟩
theorem fl_0_108 : FLf 0 108 53 := Or.inl ⟨_, q277, Or.inl rfl⟩
theorem fl_0_112 : FLf 0 112 54 := Or.inl ⟨_, q278, Or.inl rfl⟩
theorem fl_0_681 : FLf 0 681 171 := Or.inr ⟨_, q732⟩
theorem fl_0_299 : FLf 0 299 172 := Or.inr ⟨_, q734⟩
theorem fl_0_319 : FLf 0 319 173 := Or.inr ⟨_, q736⟩
theorem fl_0_322 : FLf 0 322 174 := Or.inr ⟨_, q738⟩
theorem fl_0_325 : FLf 0 325 175 := Or.inr ⟨_, q740⟩
theorem fl_0_687 : FLf 0 687 142 := Or.inr ⟨_, q983⟩
theorem fl_0_399 : FLf 0 399 143 := Or.inr ⟨_, q985⟩
theorem fl_0_401 : FLf 0 401 144 := Or.inl ⟨_, q987, Or.inl rfl⟩
theorem fl_0_404 : FLf 0 404 145 := Or.inl ⟨_, q989, Or.inl rfl⟩
theorem fl_0_302 : FLf 0 302 146 := Or.inr ⟨_, q991⟩
theorem fl_0_419 : FLf 0 419 147 := Or.inl ⟨_, q995, Or.inl rfl⟩
theorem fl_0_435 : FLf 0 435 148 := Or.inl ⟨_, q999, Or.inl rfl⟩
theorem fl_0_653 : FLf 0 653 158 := Or.inr ⟨_, q1532⟩
theorem fl_0_654 : FLf 0 654 159 := Or.inr ⟨_, q1533⟩
theorem fl_0_655 : FLf 0 655 160 := Or.inr ⟨_, q1534⟩
theorem fl_0_656 : FLf 0 656 161 := Or.inr ⟨_, q1535⟩
theorem fl_0_657 : FLf 0 657 162 := Or.inr ⟨_, q1536⟩
theorem fl_0_658 : FLf 0 658 163 := Or.inr ⟨_, q1538⟩
theorem fl_0_663 : FLf 0 663 164 := Or.inr ⟨_, q1540⟩
theorem fl_0_664 : FLf 0 664 165 := Or.inr ⟨_, q1542⟩
theorem fl_0_667 : FLf 0 667 166 := Or.inr ⟨_, q1544⟩
theorem fl_0_669 : FLf 0 669 167 := Or.inr ⟨_, q1546⟩
theorem fl_0_671 : FLf 0 671 168 := Or.inr ⟨_, q1548⟩
theorem fl_0_672 : FLf 0 672 169 := Or.inr ⟨_, q1550⟩
theorem fl_0_675 : FLf 0 675 170 := Or.inr ⟨_, q1551⟩
theorem fl_10_13 : FLf 10 13 150 := Or.inl ⟨_, q1073, Or.inl rfl⟩
theorem fl_10_1 : FLf 10 1 151 := Or.inl ⟨_, q1074, Or.inl rfl⟩
theorem fl_11_27 : FLf 11 27 153 := Or.inl ⟨_, q979, Or.inr q980⟩
theorem fl_11_19 : FLf 11 19 147 := Or.inl ⟨_, q993, Or.inr q994⟩
theorem fl_11_38 : FLf 11 38 148 := Or.inl ⟨_, q997, Or.inr q998⟩
theorem fl_11_15 : FLf 11 15 156 := Or.inl ⟨_, q1094, Or.inl rfl⟩
theorem fl_11_3 : FLf 11 3 157 := Or.inl ⟨_, q1095, Or.inl rfl⟩
theorem fl_13_12 : FLf 13 12 163 := Or.inl ⟨_, q1537, Or.inl rfl⟩
theorem fl_13_18 : FLf 13 18 164 := Or.inl ⟨_, q1539, Or.inl rfl⟩
theorem fl_13_21 : FLf 13 21 165 := Or.inl ⟨_, q1541, Or.inl rfl⟩
theorem fl_13_25 : FLf 13 25 166 := Or.inl ⟨_, q1543, Or.inl rfl⟩
theorem fl_13_29 : FLf 13 29 167 := Or.inl ⟨_, q1545, Or.inl rfl⟩
theorem fl_13_32 : FLf 13 32 168 := Or.inl ⟨_, q1547, Or.inl rfl⟩
theorem fl_13_36 : FLf 13 36 169 := Or.inl ⟨_, q1549, Or.inl rfl⟩
theorem fl_2_166 : FLf 2 166 55 := Or.inl ⟨_, q1862, Or.inl rfl⟩
theorem fl_2_153 : FLf 2 153 56 := Or.inl ⟨_, q1863, Or.inl rfl⟩
theorem fl_2_157 : FLf 2 157 57 := Or.inl ⟨_, q1864, Or.inl rfl⟩
theorem fl_2_7 : FLf 2 7 58 := Or.inl ⟨_, q1865, Or.inl rfl⟩
theorem fl_2_183 : FLf 2 183 59 := Or.inl ⟨_, q1866, Or.inl rfl⟩
theorem fl_2_13 : FLf 2 13 60 := Or.inl ⟨_, q1867, Or.inl rfl⟩
theorem fl_2_17 : FLf 2 17 61 := Or.inl ⟨_, q1868, Or.inl rfl⟩
theorem fl_2_20 : FLf 2 20 62 := Or.inl ⟨_, q1869, Or.inl rfl⟩
theorem fl_2_23 : FLf 2 23 63 := Or.inl ⟨_, q1870, Or.inl rfl⟩
theorem fl_2_26 : FLf 2 26 64 := Or.inl ⟨_, q1871, Or.inl rfl⟩
theorem fl_2_29 : FLf 2 29 65 := Or.inl ⟨_, q1872, Or.inl rfl⟩
theorem fl_2_32 : FLf 2 32 66 := Or.inl ⟨_, q1873, Or.inl rfl⟩
theorem fl_2_186 : FLf 2 186 67 := Or.inl ⟨_, q1874, Or.inl rfl⟩
theorem fl_2_35 : FLf 2 35 68 := Or.inl ⟨_, q1875, Or.inl rfl⟩
theorem fl_2_38 : FLf 2 38 69 := Or.inl ⟨_, q1876, Or.inl rfl⟩
theorem fl_2_41 : FLf 2 41 70 := Or.inl ⟨_, q1877, Or.inl rfl⟩
theorem fl_2_44 : FLf 2 44 71 := Or.inl ⟨_, q1878, Or.inl rfl⟩
theorem fl_2_47 : FLf 2 47 72 := Or.inl ⟨_, q1879, Or.inl rfl⟩
theorem fl_2_50 : FLf 2 50 73 := Or.inl ⟨_, q1880, Or.inl rfl⟩
theorem fl_2_204 : FLf 2 204 74 := Or.inl ⟨_, q1881, Or.inl rfl⟩
theorem fl_2_53 : FLf 2 53 75 := Or.inl ⟨_, q1882, Or.inl rfl⟩
theorem fl_2_56 : FLf 2 56 76 := Or.inl ⟨_, q1883, Or.inl rfl⟩
theorem fl_2_59 : FLf 2 59 77 := Or.inl ⟨_, q1884, Or.inl rfl⟩
theorem fl_2_207 : FLf 2 207 78 := Or.inl ⟨_, q1885, Or.inl rfl⟩
theorem fl_2_62 : FLf 2 62 79 := Or.inl ⟨_, q1886, Or.inl rfl⟩
theorem fl_2_189 : FLf 2 189 80 := Or.inl ⟨_, q1887, Or.inl rfl⟩
theorem fl_2_193 : FLf 2 193 81 := Or.inl ⟨_, q1888, Or.inl rfl⟩
theorem fl_2_196 : FLf 2 196 82 := Or.inl ⟨_, q1889, Or.inl rfl⟩
theorem fl_2_65 : FLf 2 65 83 := Or.inl ⟨_, q1890, Or.inl rfl⟩
theorem fl_2_68 : FLf 2 68 84 := Or.inl ⟨_, q1891, Or.inl rfl⟩
theorem fl_2_71 : FLf 2 71 85 := Or.inl ⟨_, q1892, Or.inl rfl⟩
theorem fl_2_75 : FLf 2 75 86 := Or.inl ⟨_, q1893, Or.inl rfl⟩
theorem fl_2_78 : FLf 2 78 87 := Or.inl ⟨_, q1894, Or.inl rfl⟩
theorem fl_2_81 : FLf 2 81 88 := Or.inl ⟨_, q1895, Or.inl rfl⟩
theorem fl_2_84 : FLf 2 84 89 := Or.inl ⟨_, q1896, Or.inl rfl⟩
theorem fl_2_324 : FLf 2 324 90 := Or.inl ⟨_, q1897, Or.inl rfl⟩
theorem fl_2_87 : FLf 2 87 91 := Or.inl ⟨_, q1898, Or.inl rfl⟩
theorem fl_2_335 : FLf 2 335 92 := Or.inl ⟨_, q1899, Or.inl rfl⟩
theorem fl_2_90 : FLf 2 90 93 := Or.inl ⟨_, q1900, Or.inl rfl⟩
theorem fl_2_93 : FLf 2 93 94 := Or.inl ⟨_, q1901, Or.inl rfl⟩
theorem fl_2_96 : FLf 2 96 95 := Or.inl ⟨_, q1902, Or.inl rfl⟩
theorem fl_2_362 : FLf 2 362 96 := Or.inl ⟨_, q1903, Or.inl rfl⟩
theorem fl_2_382 : FLf 2 382 97 := Or.inl ⟨_, q1904, Or.inl rfl⟩
theorem fl_2_341 : FLf 2 341 98 := Or.inl ⟨_, q1905, Or.inl rfl⟩
theorem fl_2_99 : FLf 2 99 99 := Or.inl ⟨_, q1906, Or.inl rfl⟩
theorem fl_2_102 : FLf 2 102 100 := Or.inl ⟨_, q1907, Or.inl rfl⟩
theorem fl_2_344 : FLf 2 344 101 := Or.inl ⟨_, q1908, Or.inl rfl⟩
theorem fl_2_105 : FLf 2 105 102 := Or.inl ⟨_, q1909, Or.inl rfl⟩
theorem fl_2_350 : FLf 2 350 103 := Or.inl ⟨_, q1910, Or.inl rfl⟩
theorem fl_2_356 : FLf 2 356 104 := Or.inl ⟨_, q1911, Or.inl rfl⟩
theorem fl_2_353 : FLf 2 353 105 := Or.inl ⟨_, q1912, Or.inl rfl⟩
theorem fl_2_359 : FLf 2 359 106 := Or.inl ⟨_, q1913, Or.inl rfl⟩
theorem fl_2_347 : FLf 2 347 107 := Or.inl ⟨_, q1914, Or.inl rfl⟩
theorem fl_2_403 : FLf 2 403 108 := Or.inl ⟨_, q1915, Or.inl rfl⟩
theorem fl_2_397 : FLf 2 397 109 := Or.inl ⟨_, q1916, Or.inl rfl⟩
theorem fl_2_400 : FLf 2 400 110 := Or.inl ⟨_, q1917, Or.inl rfl⟩
theorem fl_2_406 : FLf 2 406 111 := Or.inl ⟨_, q1918, Or.inl rfl⟩
theorem fl_2_412 : FLf 2 412 112 := Or.inl ⟨_, q1919, Or.inl rfl⟩
theorem fl_2_430 : FLf 2 430 113 := Or.inl ⟨_, q1920, Or.inl rfl⟩
theorem fl_2_433 : FLf 2 433 114 := Or.inl ⟨_, q1921, Or.inl rfl⟩
theorem fl_2_439 : FLf 2 439 115 := Or.inl ⟨_, q1922, Or.inl rfl⟩
theorem fl_2_442 : FLf 2 442 116 := Or.inl ⟨_, q1923, Or.inl rfl⟩
theorem fl_2_445 : FLf 2 445 117 := Or.inl ⟨_, q1924, Or.inl rfl⟩
theorem fl_2_448 : FLf 2 448 118 := Or.inl ⟨_, q1925, Or.inl rfl⟩
theorem fl_2_451 : FLf 2 451 119 := Or.inl ⟨_, q1926, Or.inl rfl⟩
theorem fl_2_108 : FLf 2 108 120 := Or.inl ⟨_, q1927, Or.inl rfl⟩
theorem fl_2_111 : FLf 2 111 121 := Or.inl ⟨_, q1928, Or.inl rfl⟩
theorem fl_2_114 : FLf 2 114 122 := Or.inl ⟨_, q1929, Or.inl rfl⟩
theorem fl_2_481 : FLf 2 481 123 := Or.inl ⟨_, q1930, Or.inl rfl⟩
theorem fl_2_478 : FLf 2 478 124 := Or.inl ⟨_, q1931, Or.inl rfl⟩
theorem fl_2_117 : FLf 2 117 125 := Or.inl ⟨_, q1932, Or.inl rfl⟩
theorem fl_2_120 : FLf 2 120 126 := Or.inl ⟨_, q1933, Or.inl rfl⟩
theorem fl_2_123 : FLf 2 123 127 := Or.inl ⟨_, q1934, Or.inl rfl⟩
theorem fl_2_126 : FLf 2 126 128 := Or.inl ⟨_, q1935, Or.inl rfl⟩
theorem fl_2_129 : FLf 2 129 129 := Or.inl ⟨_, q1936, Or.inl rfl⟩
theorem fl_2_132 : FLf 2 132 130 := Or.inl ⟨_, q1937, Or.inl rfl⟩
theorem fl_2_135 : FLf 2 135 131 := Or.inl ⟨_, q1938, Or.inl rfl⟩
theorem fl_2_138 : FLf 2 138 132 := Or.inl ⟨_, q1939, Or.inl rfl⟩
theorem fl_2_506 : FLf 2 506 133 := Or.inl ⟨_, q1940, Or.inl rfl⟩
theorem fl_2_141 : FLf 2 141 134 := Or.inl ⟨_, q1941, Or.inl rfl⟩
theorem fl_2_144 : FLf 2 144 135 := Or.inl ⟨_, q1942, Or.inl rfl⟩
theorem fl_2_147 : FLf 2 147 136 := Or.inl ⟨_, q1943, Or.inl rfl⟩
theorem fl_2_150 : FLf 2 150 137 := Or.inl ⟨_, q1944, Or.inl rfl⟩
theorem fl_3_19 : FLf 3 19 171 := Or.inl ⟨_, q731, Or.inl rfl⟩
theorem fl_3_15 : FLf 3 15 172 := Or.inl ⟨_, q733, Or.inl rfl⟩
theorem fl_3_29 : FLf 3 29 173 := Or.inl ⟨_, q735, Or.inl rfl⟩
theorem fl_3_23 : FLf 3 23 174 := Or.inl ⟨_, q737, Or.inl rfl⟩
theorem fl_3_26 : FLf 3 26 175 := Or.inl ⟨_, q739, Or.inl rfl⟩
theorem fl_3_1 : FLf 3 1 176 := Or.inl ⟨_, q741, Or.inl rfl⟩
theorem fl_4_15 : FLf 4 15 177 := Or.inl ⟨_, q761, Or.inl rfl⟩
theorem fl_4_3 : FLf 4 3 178 := Or.inl ⟨_, q762, Or.inl rfl⟩
theorem fl_5_1 : FLf 5 1 179 := Or.inl ⟨_, q780, Or.inl rfl⟩
theorem fl_6_26 : FLf 6 26 7 := Or.inr ⟨_, q230⟩
theorem fl_6_36 : FLf 6 36 142 := Or.inl ⟨_, q982, Or.inl rfl⟩
theorem fl_6_40 : FLf 6 40 143 := Or.inl ⟨_, q984, Or.inl rfl⟩
theorem fl_6_43 : FLf 6 43 144 := Or.inl ⟨_, q986, Or.inl rfl⟩
theorem fl_6_46 : FLf 6 46 145 := Or.inl ⟨_, q988, Or.inl rfl⟩
theorem fl_6_15 : FLf 6 15 146 := Or.inl ⟨_, q990, Or.inl rfl⟩
theorem fl_6_19 : FLf 6 19 147 := Or.inl ⟨_, q992, Or.inl rfl⟩
theorem fl_6_23 : FLf 6 23 148 := Or.inl ⟨_, q996, Or.inl rfl⟩
theorem fl_6_3 : FLf 6 3 149 := Or.inl ⟨_, q1000, Or.inl rfl⟩
theorem fl_7_13 : FLf 7 13 152 := Or.inl ⟨_, q977, Or.inl rfl⟩
theorem fl_7_17 : FLf 7 17 153 := Or.inl ⟨_, q978, Or.inl rfl⟩
theorem fl_7_1 : FLf 7 1 154 := Or.inl ⟨_, q981, Or.inl rfl⟩
theorem fl_8_1 : FLf 8 1 155 := Or.inl ⟨_, q1030, Or.inl rfl⟩
theorem fl_9_1 : FLf 9 1 180 := Or.inl ⟨_, q1051, Or.inl rfl⟩
theorem fl_tab : ∀ q ∈ fldT, FLf (q.1 / 10000) (q.1 % 10000) q.2 := List.forall_mem_cons.mpr ⟨fl_19_7, List.forall_mem_cons.mpr ⟨fl_16_9, List.forall_mem_cons.mpr ⟨fl_16_48, List.forall_mem_cons.mpr ⟨fl_16_63, List.forall_mem_cons.mpr ⟨fl_0_247, List.forall_mem_cons.mpr ⟨fl_0_115, List.forall_mem_cons.mpr ⟨fl_0_120, List.forall_mem_cons.mpr ⟨fl_0_11, List.forall_mem_cons.mpr ⟨fl_0_15, List.forall_mem_cons.mpr ⟨fl_0_152, List.forall_mem_cons.mpr ⟨fl_0_18, List.forall_mem_cons.mpr ⟨fl_0_25, List.forall_mem_cons.mpr ⟨fl_0_29, List.forall_mem_cons.mpr ⟨fl_0_32, List.forall_mem_cons.mpr ⟨fl_0_35, List.forall_mem_cons.mpr ⟨fl_0_38, List.forall_mem_cons.mpr ⟨fl_0_422, List.forall_mem_cons.mpr ⟨fl_0_425, List.forall_mem_cons.mpr ⟨fl_0_416, List.forall_mem_cons.mpr ⟨fl_0_42, List.forall_mem_cons.mpr ⟨fl_0_453, List.forall_mem_cons.mpr ⟨fl_0_207, List.forall_mem_cons.mpr ⟨fl_0_45, List.forall_mem_cons.mpr ⟨fl_0_49, List.forall_mem_cons.mpr ⟨fl_0_472, List.forall_mem_cons.mpr ⟨fl_0_509, List.forall_mem_cons.mpr ⟨fl_0_518, List.forall_mem_cons.mpr ⟨fl_0_538, List.forall_mem_cons.mpr ⟨fl_0_469, List.forall_mem_cons.mpr ⟨fl_0_52, List.forall_mem_cons.mpr ⟨fl_0_57, List.forall_mem_cons.mpr ⟨fl_0_60, List.forall_mem_cons.mpr ⟨fl_0_63, List.forall_mem_cons.mpr ⟨fl_0_66, List.forall_mem_cons.mpr ⟨fl_0_484, List.forall_mem_cons.mpr ⟨fl_0_487, List.forall_mem_cons.mpr ⟨fl_0_493, List.forall_mem_cons.mpr ⟨fl_0_496, List.forall_mem_cons.mpr ⟨fl_0_481, List.forall_mem_cons.mpr ⟨fl_0_69, List.forall_mem_cons.mpr ⟨fl_0_578, List.forall_mem_cons.mpr ⟨fl_0_575, List.forall_mem_cons.mpr ⟨fl_0_581, List.forall_mem_cons.mpr ⟨fl_0_584, List.forall_mem_cons.mpr ⟨fl_0_587, List.forall_mem_cons.mpr ⟨fl_0_590, List.forall_mem_cons.mpr ⟨fl_0_78, List.forall_mem_cons.mpr ⟨fl_0_81, List.forall_mem_cons.mpr ⟨fl_0_84, List.forall_mem_cons.mpr ⟨fl_0_87, List.forall_mem_cons.mpr ⟨fl_0_204, List.forall_mem_cons.mpr ⟨fl_0_92, List.forall_mem_cons.mpr ⟨fl_0_428, List.forall_mem_cons.mpr ⟨fl_0_95, List.forall_mem_cons.mpr ⟨fl_0_631, List.forall_mem_cons.mpr ⟨fl_0_634, List.forall_mem_cons.mpr ⟨fl_0_637, List.forall_mem_cons.mpr ⟨fl_0_100, List.forall_mem_cons.mpr ⟨fl_0_108, List.forall_mem_cons.mpr ⟨fl_0_112, List.forall_mem_cons.mpr ⟨fl_0_681, List.forall_mem_cons.mpr ⟨fl_0_299, List.forall_mem_cons.mpr ⟨fl_0_319, List.forall_mem_cons.mpr ⟨fl_0_322, List.forall_mem_cons.mpr ⟨fl_0_325, List.forall_mem_cons.mpr ⟨fl_0_687, List.forall_mem_cons.mpr ⟨fl_0_399, List.forall_mem_cons.mpr ⟨fl_0_401, List.forall_mem_cons.mpr ⟨fl_0_404, List.forall_mem_cons.mpr ⟨fl_0_302, List.forall_mem_cons.mpr ⟨fl_0_419, List.forall_mem_cons.mpr ⟨fl_0_435, List.forall_mem_cons.mpr ⟨fl_0_653, List.forall_mem_cons.mpr ⟨fl_0_654, List.forall_mem_cons.mpr ⟨fl_0_655, List.forall_mem_cons.mpr ⟨fl_0_656, List.forall_mem_cons.mpr ⟨fl_0_657, List.forall_mem_cons.mpr ⟨fl_0_658, List.forall_mem_cons.mpr ⟨fl_0_663, List.forall_mem_cons.mpr ⟨fl_0_664, List.forall_mem_cons.mpr ⟨fl_0_667, List.forall_mem_cons.mpr ⟨fl_0_669, List.forall_mem_cons.mpr ⟨fl_0_671, List.forall_mem_cons.mpr ⟨fl_0_672, List.forall_mem_cons.mpr ⟨fl_0_675, List.forall_mem_cons.mpr ⟨fl_10_13, List.forall_mem_cons.mpr ⟨fl_10_1, List.forall_mem_cons.mpr ⟨fl_11_27, List.forall_mem_cons.mpr ⟨fl_11_19, List.forall_mem_cons.mpr ⟨fl_11_38, List.forall_mem_cons.mpr ⟨fl_11_15, List.forall_mem_cons.mpr ⟨fl_11_3, List.forall_mem_cons.mpr ⟨fl_13_12, List.forall_mem_cons.mpr ⟨fl_13_18, List.forall_mem_cons.mpr ⟨fl_13_21, List.forall_mem_cons.mpr ⟨fl_13_25, List.forall_mem_cons.mpr ⟨fl_13_29, List.forall_mem_cons.mpr ⟨fl_13_32, List.forall_mem_cons.mpr ⟨fl_13_36, List.forall_mem_cons.mpr ⟨fl_2_166, List.forall_mem_cons.mpr ⟨fl_2_153, List.forall_mem_cons.mpr ⟨fl_2_157, List.forall_mem_cons.mpr ⟨fl_2_7, List.forall_mem_cons.mpr ⟨fl_2_183, List.forall_mem_cons.mpr ⟨fl_2_13, List.forall_mem_cons.mpr ⟨fl_2_17, List.forall_mem_cons.mpr ⟨fl_2_20, List.forall_mem_cons.mpr ⟨fl_2_23, List.forall_mem_cons.mpr ⟨fl_2_26, List.forall_mem_cons.mpr ⟨fl_2_29, List.forall_mem_cons.mpr ⟨fl_2_32, List.forall_mem_cons.mpr ⟨fl_2_186, List.forall_mem_cons.mpr ⟨fl_2_35, List.forall_mem_cons.mpr ⟨fl_2_38, List.forall_mem_cons.mpr ⟨fl_2_41, List.forall_mem_cons.mpr ⟨fl_2_44, List.forall_mem_cons.mpr ⟨fl_2_47, List.forall_mem_cons.mpr ⟨fl_2_50, List.forall_mem_cons.mpr ⟨fl_2_204, List.forall_mem_cons.mpr ⟨fl_2_53, List.forall_mem_cons.mpr ⟨fl_2_56, List.forall_mem_cons.mpr ⟨fl_2_59, List.forall_mem_cons.mpr ⟨fl_2_207, List.forall_mem_cons.mpr ⟨fl_2_62, List.forall_mem_cons.mpr ⟨fl_2_189, List.forall_mem_cons.mpr ⟨fl_2_193, List.forall_mem_cons.mpr ⟨fl_2_196, List.forall_mem_cons.mpr ⟨fl_2_65, List.forall_mem_cons.mpr ⟨fl_2_68, List.forall_mem_cons.mpr ⟨fl_2_71, List.forall_mem_cons.mpr ⟨fl_2_75, List.forall_mem_cons.mpr ⟨fl_2_78, List.forall_mem_cons.mpr ⟨fl_2_81, List.forall_mem_cons.mpr ⟨fl_2_84, List.forall_mem_cons.mpr ⟨fl_2_324, List.forall_mem_cons.mpr ⟨fl_2_87, List.forall_mem_cons.mpr ⟨fl_2_335, List.forall_mem_cons.mpr ⟨fl_2_90, List.forall_mem_cons.mpr ⟨fl_2_93, List.forall_mem_cons.mpr ⟨fl_2_96, List.forall_mem_cons.mpr ⟨fl_2_362, List.forall_mem_cons.mpr ⟨fl_2_382, List.forall_mem_cons.mpr ⟨fl_2_341, List.forall_mem_cons.mpr ⟨fl_2_99, List.forall_mem_cons.mpr ⟨fl_2_102, List.forall_mem_cons.mpr ⟨fl_2_344, List.forall_mem_cons.mpr ⟨fl_2_105, List.forall_mem_cons.mpr ⟨fl_2_350, List.forall_mem_cons.mpr ⟨fl_2_356, List.forall_mem_cons.mpr ⟨fl_2_353, List.forall_mem_cons.mpr ⟨fl_2_359, List.forall_mem_cons.mpr ⟨fl_2_347, List.forall_mem_cons.mpr ⟨fl_2_403, List.forall_mem_cons.mpr ⟨fl_2_397, List.forall_mem_cons.mpr ⟨fl_2_400, List.forall_mem_cons.mpr ⟨fl_2_406, List.forall_mem_cons.mpr ⟨fl_2_412, List.forall_mem_cons.mpr ⟨fl_2_430, List.forall_mem_cons.mpr ⟨fl_2_433, List.forall_mem_cons.mpr ⟨fl_2_439, List.forall_mem_cons.mpr ⟨fl_2_442, List.forall_mem_cons.mpr ⟨fl_2_445, List.forall_mem_cons.mpr ⟨fl_2_448, List.forall_mem_cons.mpr ⟨fl_2_451, List.forall_mem_cons.mpr ⟨fl_2_108, List.forall_mem_cons.mpr ⟨fl_2_111, List.forall_mem_cons.mpr ⟨fl_2_114, List.forall_mem_cons.mpr ⟨fl_2_481, List.forall_mem_cons.mpr ⟨fl_2_478, List.forall_mem_cons.mpr ⟨fl_2_117, List.forall_mem_cons.mpr ⟨fl_2_120, List.forall_mem_cons.mpr ⟨fl_2_123, List.forall_mem_cons.mpr ⟨fl_2_126, List.forall_mem_cons.mpr ⟨fl_2_129, List.forall_mem_cons.mpr ⟨fl_2_132, List.forall_mem_cons.mpr ⟨fl_2_135, List.forall_mem_cons.mpr ⟨fl_2_138, List.forall_mem_cons.mpr ⟨fl_2_506, List.forall_mem_cons.mpr ⟨fl_2_141, List.forall_mem_cons.mpr ⟨fl_2_144, List.forall_mem_cons.mpr ⟨fl_2_147, List.forall_mem_cons.mpr ⟨fl_2_150, List.forall_mem_cons.mpr ⟨fl_3_19, List.forall_mem_cons.mpr ⟨fl_3_15, List.forall_mem_cons.mpr ⟨fl_3_29, List.forall_mem_cons.mpr ⟨fl_3_23, List.forall_mem_cons.mpr ⟨fl_3_26, List.forall_mem_cons.mpr ⟨fl_3_1, List.forall_mem_cons.mpr ⟨fl_4_15, List.forall_mem_cons.mpr ⟨fl_4_3, List.forall_mem_cons.mpr ⟨fl_5_1, List.forall_mem_cons.mpr ⟨fl_6_26, List.forall_mem_cons.mpr ⟨fl_6_36, List.forall_mem_cons.mpr ⟨fl_6_40, List.forall_mem_cons.mpr ⟨fl_6_43, List.forall_mem_cons.mpr ⟨fl_6_46, List.forall_mem_cons.mpr ⟨fl_6_15, List.forall_mem_cons.mpr ⟨fl_6_19, List.forall_mem_cons.mpr ⟨fl_6_23, List.forall_mem_cons.mpr ⟨fl_6_3, List.forall_mem_cons.mpr ⟨fl_7_13, List.forall_mem_cons.mpr ⟨fl_7_17, List.forall_mem_cons.mpr ⟨fl_7_1, List.forall_mem_cons.mpr ⟨fl_8_1, List.forall_mem_cons.mpr ⟨fl_9_1, fun _ h => absurd h List.not_mem_nil⟩⟩⟩⟩⟩⟩⟩⟩⟩⟩⟩⟩⟩⟩⟩⟩⟩⟩⟩⟩⟩⟩⟩⟩⟩⟩⟩⟩⟩⟩⟩⟩⟩⟩⟩⟩⟩⟩⟩⟩⟩⟩⟩⟩⟩⟩⟩⟩⟩⟩⟩⟩⟩⟩⟩⟩⟩⟩⟩⟩⟩⟩⟩⟩⟩⟩⟩⟩⟩⟩⟩⟩⟩⟩⟩⟩⟩⟩⟩⟩⟩⟩⟩⟩⟩⟩⟩⟩⟩⟩⟩⟩⟩⟩⟩⟩⟩⟩⟩⟩⟩⟩⟩⟩⟩⟩⟩⟩⟩⟩⟩⟩⟩⟩⟩⟩⟩⟩⟩⟩⟩⟩⟩⟩⟩⟩⟩⟩⟩⟩⟩⟩⟩⟩⟩⟩⟩⟩⟩⟩⟩⟩⟩⟩⟩⟩⟩⟩⟩⟩⟩⟩⟩⟩⟩⟩⟩⟩⟩⟩⟩⟩⟩⟩⟩⟩⟩⟩⟩⟩⟩⟩⟩⟩⟩⟩⟩⟩⟩⟩⟩⟩⟩⟩⟩⟩⟩⟩⟩⟩⟩⟩⟩⟩⟩⟩⟩⟩⟩⟩⟩⟩⟩⟩⟩
theorem kf_inv {c k n : Nat} (h : kf c k = n) (hn : n < 999999999) : n / 10000 = c ∧ n % 10000 = k := by
  unfold kf at h
  split at h
  · omega
  · omega
theorem fl_all {c k f : Nat} (h : fldR (kf c k) = some f) : FLf c k f := by
  unfold fldR at h
  cases e : fldT.find? (fun q => q.1 == kf c k) with
  | none => rw [e] at h; cases h
  | some q =>
    rw [e] at h
    have h1 : q.2 = f := by simpa using h
    have h2 := List.find?_some e
    have h3 := List.mem_of_find?_eq_some e
    have h4 : q.1 = kf c k := by simpa using h2
    have h5 : ∀ q ∈ fldT, q.1 < 999999999 := by decide +kernel
    obtain ⟨a1, a2⟩ := kf_inv h4.symm (h5 q h3)
    have h6 := fl_tab q h3
    rw [a1, a2, h1] at h6
    exact h6
def clN (t : Nat) : String := match t with
  | 40 => "[I"
  | 41 => "[J"
  | 42 => "[B"
  | 43 => "[S"
  | 50 => "java/lang/Object"
  | 51 => "[[I"
  | 52 => "[[J"
  | t => cnm t
theorem cl_tab : ∀ q ∈ clsT, Cond.classLink (cnm (q.1 / 10000)) (q.1 % 10000) (clN q.2) ∈ lw_all := List.forall_mem_cons.mpr ⟨q866, List.forall_mem_cons.mpr ⟨q858, List.forall_mem_cons.mpr ⟨q171, List.forall_mem_cons.mpr ⟨q198, List.forall_mem_cons.mpr ⟨q203, List.forall_mem_cons.mpr ⟨q205, List.forall_mem_cons.mpr ⟨q210, List.forall_mem_cons.mpr ⟨q463, List.forall_mem_cons.mpr ⟨q505, List.forall_mem_cons.mpr ⟨q548, List.forall_mem_cons.mpr ⟨q635, List.forall_mem_cons.mpr ⟨q660, List.forall_mem_cons.mpr ⟨q689, List.forall_mem_cons.mpr ⟨q690, List.forall_mem_cons.mpr ⟨q691, List.forall_mem_cons.mpr ⟨q692, List.forall_mem_cons.mpr ⟨q755, List.forall_mem_cons.mpr ⟨q774, List.forall_mem_cons.mpr ⟨q966, List.forall_mem_cons.mpr ⟨q1024, List.forall_mem_cons.mpr ⟨q1045, List.forall_mem_cons.mpr ⟨q1067, List.forall_mem_cons.mpr ⟨q1088, List.forall_mem_cons.mpr ⟨q1154, List.forall_mem_cons.mpr ⟨q1267, List.forall_mem_cons.mpr ⟨q1825, List.forall_mem_cons.mpr ⟨q1839, List.forall_mem_cons.mpr ⟨q1530, List.forall_mem_cons.mpr ⟨q163, List.forall_mem_cons.mpr ⟨q1856, fun _ h => absurd h List.not_mem_nil⟩⟩⟩⟩⟩⟩⟩⟩⟩⟩⟩⟩⟩⟩⟩⟩⟩⟩⟩⟩⟩⟩⟩⟩⟩⟩⟩⟩⟩⟩
theorem cl_all {c k t : Nat} (h : clsR (kf c k) = some t) : Cond.classLink (cnm c) k (clN t) ∈ lw_all := by
  unfold clsR at h
  cases e : clsT.find? (fun q => q.1 == kf c k) with
  | none => rw [e] at h; cases h
  | some q =>
    rw [e] at h
    have h1 : q.2 = t := by simpa using h
    have h2 := List.find?_some e
    have h3 := List.mem_of_find?_eq_some e
    have h4 : q.1 = kf c k := by simpa using h2
    have h5 : ∀ q ∈ clsT, q.1 < 999999999 := by decide +kernel
    obtain ⟨a1, a2⟩ := kf_inv h4.symm (h5 q h3)
    have h6 := cl_tab q h3
    rw [a1, a2, h1] at h6
    exact h6
theorem in_tab : ∀ q ∈ newC, Cond.instantiable (cnm q) (nsl q) ∈ lw_all ∧ Cond.initialized (cnm q) ∈ lw_all := List.forall_mem_cons.mpr ⟨⟨q164, q128⟩, List.forall_mem_cons.mpr ⟨⟨q212, q133⟩, List.forall_mem_cons.mpr ⟨⟨q1857, q134⟩, List.forall_mem_cons.mpr ⟨⟨q725, q147⟩, List.forall_mem_cons.mpr ⟨⟨q756, q148⟩, List.forall_mem_cons.mpr ⟨⟨q775, q149⟩, List.forall_mem_cons.mpr ⟨⟨q967, q154⟩, List.forall_mem_cons.mpr ⟨⟨q1025, q155⟩, List.forall_mem_cons.mpr ⟨⟨q1046, q156⟩, List.forall_mem_cons.mpr ⟨⟨q1068, q157⟩, List.forall_mem_cons.mpr ⟨⟨q1089, q158⟩, List.forall_mem_cons.mpr ⟨⟨q1278, q160⟩, List.forall_mem_cons.mpr ⟨⟨q1525, q161⟩, List.forall_mem_cons.mpr ⟨⟨q172, q131⟩, List.forall_mem_cons.mpr ⟨⟨q661, q146⟩, fun _ h => absurd h List.not_mem_nil⟩⟩⟩⟩⟩⟩⟩⟩⟩⟩⟩⟩⟩⟩⟩
theorem ck_tab : ∀ q ∈ constT, Cond.constant (cnm (q.1 / 10000)) (q.1 % 10000) q.2 ∈ lw_all := List.forall_mem_cons.mpr ⟨q823, List.forall_mem_cons.mpr ⟨q542, List.forall_mem_cons.mpr ⟨q1275, List.forall_mem_cons.mpr ⟨q1276, List.forall_mem_cons.mpr ⟨q1277, List.forall_mem_cons.mpr ⟨q1337, List.forall_mem_cons.mpr ⟨q2335, fun _ h => absurd h List.not_mem_nil⟩⟩⟩⟩⟩⟩⟩
theorem cj_tab : ∀ q ∈ constJT, Cond.constantLong (cnm (q.1 / 10000)) (q.1 % 10000) q.2 ∈ lw_all := List.forall_mem_cons.mpr ⟨q713, List.forall_mem_cons.mpr ⟨q714, List.forall_mem_cons.mpr ⟨q715, List.forall_mem_cons.mpr ⟨q394, List.forall_mem_cons.mpr ⟨q420, List.forall_mem_cons.mpr ⟨q497, List.forall_mem_cons.mpr ⟨q682, List.forall_mem_cons.mpr ⟨q724, List.forall_mem_cons.mpr ⟨q878, List.forall_mem_cons.mpr ⟨q941, List.forall_mem_cons.mpr ⟨q957, List.forall_mem_cons.mpr ⟨q1473, List.forall_mem_cons.mpr ⟨q2116, List.forall_mem_cons.mpr ⟨q2136, List.forall_mem_cons.mpr ⟨q2148, List.forall_mem_cons.mpr ⟨q2172, List.forall_mem_cons.mpr ⟨q2185, List.forall_mem_cons.mpr ⟨q2263, List.forall_mem_cons.mpr ⟨q2271, List.forall_mem_cons.mpr ⟨q2280, List.forall_mem_cons.mpr ⟨q2334, List.forall_mem_cons.mpr ⟨q2490, List.forall_mem_cons.mpr ⟨q730, List.forall_mem_cons.mpr ⟨q2629, fun _ h => absurd h List.not_mem_nil⟩⟩⟩⟩⟩⟩⟩⟩⟩⟩⟩⟩⟩⟩⟩⟩⟩⟩⟩⟩⟩⟩⟩⟩
theorem ck_all {c k : Nat} {t : Int32} (h : constR (kf c k) = some t) : Cond.constant (cnm c) k t ∈ lw_all := by
  unfold constR at h
  cases e : constT.find? (fun q => q.1 == kf c k) with
  | none => rw [e] at h; cases h
  | some q =>
    rw [e] at h
    have h1 : q.2 = t := by simpa using h
    have h2 := List.find?_some e
    have h3 := List.mem_of_find?_eq_some e
    have h4 : q.1 = kf c k := by simpa using h2
    have h5 : ∀ q ∈ constT, q.1 < 999999999 := by decide +kernel
    obtain ⟨a1, a2⟩ := kf_inv h4.symm (h5 q h3)
    have h6 := ck_tab q h3
    rw [a1, a2, h1] at h6
    exact h6
theorem cj_all {c k : Nat} {t : Int64} (h : constJR (kf c k) = some t) : Cond.constantLong (cnm c) k t ∈ lw_all := by
  unfold constJR at h
  cases e : constJT.find? (fun q => q.1 == kf c k) with
  | none => rw [e] at h; cases h
  | some q =>
    rw [e] at h
    have h1 : q.2 = t := by simpa using h
    have h2 := List.find?_some e
    have h3 := List.mem_of_find?_eq_some e
    have h4 : q.1 = kf c k := by simpa using h2
    have h5 : ∀ q ∈ constJT, q.1 < 999999999 := by decide +kernel
    obtain ⟨a1, a2⟩ := kf_inv h4.symm (h5 q h3)
    have h6 := cj_tab q h3
    rw [a1, a2, h1] at h6
    exact h6
def tnm (t : Nat) : String := match t with
  | 40 => "[I"
  | 41 => "[J"
  | 42 => "[B"
  | 43 => "[S"
  | 44 => "[Z"
  | 50 => "[Ljava/lang/Object;"
  | 51 => "[[I"
  | 52 => "[[J"
  | 53 => "[LHeardPlaces$Image;"
  | 54 => "[LHeardPlaces$Place;"
  | t => cnm t
def knL : List Nat := [0, 1, 2, 3, 4, 5, 7, 8, 9, 10, 11, 13, 16, 12, 20, 21, 22, 23, 24, 40, 41, 42, 43, 44, 50, 51, 52, 53, 54]
theorem cast_yes : ∀ q ∈ castT, ∀ t ∈ q.2, tnm t = clN q.1 ∨ Cond.castable (tnm t) (clN q.1) ∈ lw_tbl := List.forall_mem_cons.mpr ⟨(List.forall_mem_cons.mpr ⟨Or.inl rfl, List.forall_mem_cons.mpr ⟨Or.inr q2656, List.forall_mem_cons.mpr ⟨Or.inr q2657, fun _ h => absurd h List.not_mem_nil⟩⟩⟩), List.forall_mem_cons.mpr ⟨(List.forall_mem_cons.mpr ⟨Or.inl rfl, List.forall_mem_cons.mpr ⟨Or.inr q2663, fun _ h => absurd h List.not_mem_nil⟩⟩), List.forall_mem_cons.mpr ⟨(List.forall_mem_cons.mpr ⟨Or.inl rfl, fun _ h => absurd h List.not_mem_nil⟩), List.forall_mem_cons.mpr ⟨(List.forall_mem_cons.mpr ⟨Or.inr q2659, List.forall_mem_cons.mpr ⟨Or.inr q2660, List.forall_mem_cons.mpr ⟨Or.inr q2658, List.forall_mem_cons.mpr ⟨Or.inr q2661, List.forall_mem_cons.mpr ⟨Or.inr q2662, fun _ h => absurd h List.not_mem_nil⟩⟩⟩⟩⟩), List.forall_mem_cons.mpr ⟨(List.forall_mem_cons.mpr ⟨Or.inl rfl, List.forall_mem_cons.mpr ⟨Or.inr q2665, List.forall_mem_cons.mpr ⟨Or.inr q2664, List.forall_mem_cons.mpr ⟨Or.inr q2666, fun _ h => absurd h List.not_mem_nil⟩⟩⟩⟩), List.forall_mem_cons.mpr ⟨(List.forall_mem_cons.mpr ⟨Or.inl rfl, List.forall_mem_cons.mpr ⟨Or.inr q2667, List.forall_mem_cons.mpr ⟨Or.inr q2668, fun _ h => absurd h List.not_mem_nil⟩⟩⟩), List.forall_mem_cons.mpr ⟨(List.forall_mem_cons.mpr ⟨Or.inl rfl, fun _ h => absurd h List.not_mem_nil⟩), List.forall_mem_cons.mpr ⟨(List.forall_mem_cons.mpr ⟨Or.inl rfl, fun _ h => absurd h List.not_mem_nil⟩), List.forall_mem_cons.mpr ⟨(List.forall_mem_cons.mpr ⟨Or.inl rfl, fun _ h => absurd h List.not_mem_nil⟩), List.forall_mem_cons.mpr ⟨(List.forall_mem_cons.mpr ⟨Or.inl rfl, fun _ h => absurd h List.not_mem_nil⟩), List.forall_mem_cons.mpr ⟨(List.forall_mem_cons.mpr ⟨Or.inl rfl, fun _ h => absurd h List.not_mem_nil⟩), List.forall_mem_cons.mpr ⟨(List.forall_mem_cons.mpr ⟨Or.inl rfl, fun _ h => absurd h List.not_mem_nil⟩), List.forall_mem_cons.mpr ⟨(List.forall_mem_cons.mpr ⟨Or.inl rfl, fun _ h => absurd h List.not_mem_nil⟩), fun _ h => absurd h List.not_mem_nil⟩⟩⟩⟩⟩⟩⟩⟩⟩⟩⟩⟩⟩
theorem nc_7_3 : Cond.not (.castable (tnm 7) (clN 3)) ∈ flatC (Cond.and given_1 narrow_1) := List.mem_of_getElem? (i := 143) (by decide +kernel)
theorem nc_8_3 : Cond.not (.castable (tnm 8) (clN 3)) ∈ flatC (Cond.and given_1 narrow_1) := List.mem_of_getElem? (i := 144) (by decide +kernel)
theorem nc_9_3 : Cond.not (.castable (tnm 9) (clN 3)) ∈ flatC (Cond.and given_1 narrow_1) := List.mem_of_getElem? (i := 145) (by decide +kernel)
theorem nc_10_3 : Cond.not (.castable (tnm 10) (clN 3)) ∈ flatC (Cond.and given_1 narrow_1) := List.mem_of_getElem? (i := 146) (by decide +kernel)
theorem nc_11_3 : Cond.not (.castable (tnm 11) (clN 3)) ∈ flatC (Cond.and given_1 narrow_1) := List.mem_of_getElem? (i := 147) (by decide +kernel)
theorem nc_3_4 : Cond.not (.castable (tnm 3) (clN 4)) ∈ flatC (Cond.and given_1 narrow_1) := List.mem_of_getElem? (i := 173) (by decide +kernel)
theorem nc_7_4 : Cond.not (.castable (tnm 7) (clN 4)) ∈ flatC (Cond.and given_1 narrow_1) := List.mem_of_getElem? (i := 174) (by decide +kernel)
theorem nc_8_4 : Cond.not (.castable (tnm 8) (clN 4)) ∈ flatC (Cond.and given_1 narrow_1) := List.mem_of_getElem? (i := 175) (by decide +kernel)
theorem nc_9_4 : Cond.not (.castable (tnm 9) (clN 4)) ∈ flatC (Cond.and given_1 narrow_1) := List.mem_of_getElem? (i := 176) (by decide +kernel)
theorem nc_10_4 : Cond.not (.castable (tnm 10) (clN 4)) ∈ flatC (Cond.and given_1 narrow_1) := List.mem_of_getElem? (i := 177) (by decide +kernel)
theorem nc_11_4 : Cond.not (.castable (tnm 11) (clN 4)) ∈ flatC (Cond.and given_1 narrow_1) := List.mem_of_getElem? (i := 178) (by decide +kernel)
theorem nc_3_5 : Cond.not (.castable (tnm 3) (clN 5)) ∈ flatC (Cond.and given_1 narrow_1) := List.mem_of_getElem? (i := 190) (by decide +kernel)
theorem nc_4_5 : Cond.not (.castable (tnm 4) (clN 5)) ∈ flatC (Cond.and given_1 narrow_1) := List.mem_of_getElem? (i := 191) (by decide +kernel)
theorem nc_7_5 : Cond.not (.castable (tnm 7) (clN 5)) ∈ flatC (Cond.and given_1 narrow_1) := List.mem_of_getElem? (i := 192) (by decide +kernel)
theorem nc_8_5 : Cond.not (.castable (tnm 8) (clN 5)) ∈ flatC (Cond.and given_1 narrow_1) := List.mem_of_getElem? (i := 193) (by decide +kernel)
theorem nc_9_5 : Cond.not (.castable (tnm 9) (clN 5)) ∈ flatC (Cond.and given_1 narrow_1) := List.mem_of_getElem? (i := 194) (by decide +kernel)
theorem nc_10_5 : Cond.not (.castable (tnm 10) (clN 5)) ∈ flatC (Cond.and given_1 narrow_1) := List.mem_of_getElem? (i := 195) (by decide +kernel)
theorem nc_11_5 : Cond.not (.castable (tnm 11) (clN 5)) ∈ flatC (Cond.and given_1 narrow_1) := List.mem_of_getElem? (i := 196) (by decide +kernel)
theorem nc_3_6 : Cond.not (.castable (tnm 3) (clN 6)) ∈ flatC (Cond.and given_1 narrow_1) := List.mem_of_getElem? (i := 159) (by decide +kernel)
theorem nc_4_6 : Cond.not (.castable (tnm 4) (clN 6)) ∈ flatC (Cond.and given_1 narrow_1) := List.mem_of_getElem? (i := 160) (by decide +kernel)
theorem nc_5_6 : Cond.not (.castable (tnm 5) (clN 6)) ∈ flatC (Cond.and given_1 narrow_1) := List.mem_of_getElem? (i := 161) (by decide +kernel)
theorem nc_3_7 : Cond.not (.castable (tnm 3) (clN 7)) ∈ flatC (Cond.and given_1 narrow_1) := List.mem_of_getElem? (i := 208) (by decide +kernel)
theorem nc_4_7 : Cond.not (.castable (tnm 4) (clN 7)) ∈ flatC (Cond.and given_1 narrow_1) := List.mem_of_getElem? (i := 209) (by decide +kernel)
theorem nc_5_7 : Cond.not (.castable (tnm 5) (clN 7)) ∈ flatC (Cond.and given_1 narrow_1) := List.mem_of_getElem? (i := 210) (by decide +kernel)
theorem nc_10_7 : Cond.not (.castable (tnm 10) (clN 7)) ∈ flatC (Cond.and given_1 narrow_1) := List.mem_of_getElem? (i := 211) (by decide +kernel)
theorem nc_3_8 : Cond.not (.castable (tnm 3) (clN 8)) ∈ flatC (Cond.and given_1 narrow_1) := List.mem_of_getElem? (i := 223) (by decide +kernel)
theorem nc_4_8 : Cond.not (.castable (tnm 4) (clN 8)) ∈ flatC (Cond.and given_1 narrow_1) := List.mem_of_getElem? (i := 224) (by decide +kernel)
theorem nc_5_8 : Cond.not (.castable (tnm 5) (clN 8)) ∈ flatC (Cond.and given_1 narrow_1) := List.mem_of_getElem? (i := 225) (by decide +kernel)
theorem nc_7_8 : Cond.not (.castable (tnm 7) (clN 8)) ∈ flatC (Cond.and given_1 narrow_1) := List.mem_of_getElem? (i := 226) (by decide +kernel)
theorem nc_10_8 : Cond.not (.castable (tnm 10) (clN 8)) ∈ flatC (Cond.and given_1 narrow_1) := List.mem_of_getElem? (i := 227) (by decide +kernel)
theorem nc_3_9 : Cond.not (.castable (tnm 3) (clN 9)) ∈ flatC (Cond.and given_1 narrow_1) := List.mem_of_getElem? (i := 239) (by decide +kernel)
theorem nc_4_9 : Cond.not (.castable (tnm 4) (clN 9)) ∈ flatC (Cond.and given_1 narrow_1) := List.mem_of_getElem? (i := 240) (by decide +kernel)
theorem nc_5_9 : Cond.not (.castable (tnm 5) (clN 9)) ∈ flatC (Cond.and given_1 narrow_1) := List.mem_of_getElem? (i := 241) (by decide +kernel)
theorem nc_7_9 : Cond.not (.castable (tnm 7) (clN 9)) ∈ flatC (Cond.and given_1 narrow_1) := List.mem_of_getElem? (i := 242) (by decide +kernel)
theorem nc_8_9 : Cond.not (.castable (tnm 8) (clN 9)) ∈ flatC (Cond.and given_1 narrow_1) := List.mem_of_getElem? (i := 243) (by decide +kernel)
theorem nc_10_9 : Cond.not (.castable (tnm 10) (clN 9)) ∈ flatC (Cond.and given_1 narrow_1) := List.mem_of_getElem? (i := 244) (by decide +kernel)
theorem nc_11_9 : Cond.not (.castable (tnm 11) (clN 9)) ∈ flatC (Cond.and given_1 narrow_1) := List.mem_of_getElem? (i := 245) (by decide +kernel)
theorem nc_3_10 : Cond.not (.castable (tnm 3) (clN 10)) ∈ flatC (Cond.and given_1 narrow_1) := List.mem_of_getElem? (i := 257) (by decide +kernel)
theorem nc_4_10 : Cond.not (.castable (tnm 4) (clN 10)) ∈ flatC (Cond.and given_1 narrow_1) := List.mem_of_getElem? (i := 258) (by decide +kernel)
theorem nc_5_10 : Cond.not (.castable (tnm 5) (clN 10)) ∈ flatC (Cond.and given_1 narrow_1) := List.mem_of_getElem? (i := 259) (by decide +kernel)
theorem nc_7_10 : Cond.not (.castable (tnm 7) (clN 10)) ∈ flatC (Cond.and given_1 narrow_1) := List.mem_of_getElem? (i := 260) (by decide +kernel)
theorem nc_8_10 : Cond.not (.castable (tnm 8) (clN 10)) ∈ flatC (Cond.and given_1 narrow_1) := List.mem_of_getElem? (i := 261) (by decide +kernel)
theorem nc_9_10 : Cond.not (.castable (tnm 9) (clN 10)) ∈ flatC (Cond.and given_1 narrow_1) := List.mem_of_getElem? (i := 262) (by decide +kernel)
theorem nc_11_10 : Cond.not (.castable (tnm 11) (clN 10)) ∈ flatC (Cond.and given_1 narrow_1) := List.mem_of_getElem? (i := 263) (by decide +kernel)
theorem nc_3_11 : Cond.not (.castable (tnm 3) (clN 11)) ∈ flatC (Cond.and given_1 narrow_1) := List.mem_of_getElem? (i := 275) (by decide +kernel)
theorem nc_4_11 : Cond.not (.castable (tnm 4) (clN 11)) ∈ flatC (Cond.and given_1 narrow_1) := List.mem_of_getElem? (i := 276) (by decide +kernel)
theorem nc_5_11 : Cond.not (.castable (tnm 5) (clN 11)) ∈ flatC (Cond.and given_1 narrow_1) := List.mem_of_getElem? (i := 277) (by decide +kernel)
theorem nc_7_11 : Cond.not (.castable (tnm 7) (clN 11)) ∈ flatC (Cond.and given_1 narrow_1) := List.mem_of_getElem? (i := 278) (by decide +kernel)
theorem nc_8_11 : Cond.not (.castable (tnm 8) (clN 11)) ∈ flatC (Cond.and given_1 narrow_1) := List.mem_of_getElem? (i := 279) (by decide +kernel)
theorem nc_9_11 : Cond.not (.castable (tnm 9) (clN 11)) ∈ flatC (Cond.and given_1 narrow_1) := List.mem_of_getElem? (i := 280) (by decide +kernel)
theorem nc_10_11 : Cond.not (.castable (tnm 10) (clN 11)) ∈ flatC (Cond.and given_1 narrow_1) := List.mem_of_getElem? (i := 281) (by decide +kernel)
theorem nc_40_42 : Cond.not (.castable (tnm 40) (clN 42)) ∈ flatC (Cond.and given_1 narrow_1) := List.mem_of_getElem? (i := 337) (by decide +kernel)
theorem nc_41_42 : Cond.not (.castable (tnm 41) (clN 42)) ∈ flatC (Cond.and given_1 narrow_1) := List.mem_of_getElem? (i := 331) (by decide +kernel)
theorem nc_43_42 : Cond.not (.castable (tnm 43) (clN 42)) ∈ flatC (Cond.and given_1 narrow_1) := List.mem_of_getElem? (i := 339) (by decide +kernel)
theorem nc_40_43 : Cond.not (.castable (tnm 40) (clN 43)) ∈ flatC (Cond.and given_1 narrow_1) := List.mem_of_getElem? (i := 367) (by decide +kernel)
theorem nc_41_43 : Cond.not (.castable (tnm 41) (clN 43)) ∈ flatC (Cond.and given_1 narrow_1) := List.mem_of_getElem? (i := 361) (by decide +kernel)
theorem nc_42_43 : Cond.not (.castable (tnm 42) (clN 43)) ∈ flatC (Cond.and given_1 narrow_1) := List.mem_of_getElem? (i := 368) (by decide +kernel)
theorem nc_41_40 : Cond.not (.castable (tnm 41) (clN 40)) ∈ flatC (Cond.and given_1 narrow_1) := List.mem_of_getElem? (i := 391) (by decide +kernel)
theorem nc_42_40 : Cond.not (.castable (tnm 42) (clN 40)) ∈ flatC (Cond.and given_1 narrow_1) := List.mem_of_getElem? (i := 397) (by decide +kernel)
theorem nc_43_40 : Cond.not (.castable (tnm 43) (clN 40)) ∈ flatC (Cond.and given_1 narrow_1) := List.mem_of_getElem? (i := 399) (by decide +kernel)
theorem nc_40_41 : Cond.not (.castable (tnm 40) (clN 41)) ∈ flatC (Cond.and given_1 narrow_1) := List.mem_of_getElem? (i := 426) (by decide +kernel)
theorem nc_42_41 : Cond.not (.castable (tnm 42) (clN 41)) ∈ flatC (Cond.and given_1 narrow_1) := List.mem_of_getElem? (i := 427) (by decide +kernel)
theorem nc_43_41 : Cond.not (.castable (tnm 43) (clN 41)) ∈ flatC (Cond.and given_1 narrow_1) := List.mem_of_getElem? (i := 429) (by decide +kernel)
theorem cast_no : ∀ q ∈ castNT, ∀ t ∈ q.2, Cond.not (.castable (tnm t) (clN q.1)) ∈ flatC (Cond.and given_1 narrow_1) := List.forall_mem_cons.mpr ⟨(List.forall_mem_cons.mpr ⟨nc_7_3, List.forall_mem_cons.mpr ⟨nc_8_3, List.forall_mem_cons.mpr ⟨nc_9_3, List.forall_mem_cons.mpr ⟨nc_10_3, List.forall_mem_cons.mpr ⟨nc_11_3, fun _ h => absurd h List.not_mem_nil⟩⟩⟩⟩⟩), List.forall_mem_cons.mpr ⟨(List.forall_mem_cons.mpr ⟨nc_3_4, List.forall_mem_cons.mpr ⟨nc_7_4, List.forall_mem_cons.mpr ⟨nc_8_4, List.forall_mem_cons.mpr ⟨nc_9_4, List.forall_mem_cons.mpr ⟨nc_10_4, List.forall_mem_cons.mpr ⟨nc_11_4, fun _ h => absurd h List.not_mem_nil⟩⟩⟩⟩⟩⟩), List.forall_mem_cons.mpr ⟨(List.forall_mem_cons.mpr ⟨nc_3_5, List.forall_mem_cons.mpr ⟨nc_4_5, List.forall_mem_cons.mpr ⟨nc_7_5, List.forall_mem_cons.mpr ⟨nc_8_5, List.forall_mem_cons.mpr ⟨nc_9_5, List.forall_mem_cons.mpr ⟨nc_10_5, List.forall_mem_cons.mpr ⟨nc_11_5, fun _ h => absurd h List.not_mem_nil⟩⟩⟩⟩⟩⟩⟩), List.forall_mem_cons.mpr ⟨(List.forall_mem_cons.mpr ⟨nc_3_6, List.forall_mem_cons.mpr ⟨nc_4_6, List.forall_mem_cons.mpr ⟨nc_5_6, fun _ h => absurd h List.not_mem_nil⟩⟩⟩), List.forall_mem_cons.mpr ⟨(List.forall_mem_cons.mpr ⟨nc_3_7, List.forall_mem_cons.mpr ⟨nc_4_7, List.forall_mem_cons.mpr ⟨nc_5_7, List.forall_mem_cons.mpr ⟨nc_10_7, fun _ h => absurd h List.not_mem_nil⟩⟩⟩⟩), List.forall_mem_cons.mpr ⟨(List.forall_mem_cons.mpr ⟨nc_3_8, List.forall_mem_cons.mpr ⟨nc_4_8, List.forall_mem_cons.mpr ⟨nc_5_8, List.forall_mem_cons.mpr ⟨nc_7_8, List.forall_mem_cons.mpr ⟨nc_10_8, fun _ h => absurd h List.not_mem_nil⟩⟩⟩⟩⟩), List.forall_mem_cons.mpr ⟨(List.forall_mem_cons.mpr ⟨nc_3_9, List.forall_mem_cons.mpr ⟨nc_4_9, List.forall_mem_cons.mpr ⟨nc_5_9, List.forall_mem_cons.mpr ⟨nc_7_9, List.forall_mem_cons.mpr ⟨nc_8_9, List.forall_mem_cons.mpr ⟨nc_10_9, List.forall_mem_cons.mpr ⟨nc_11_9, fun _ h => absurd h List.not_mem_nil⟩⟩⟩⟩⟩⟩⟩), List.forall_mem_cons.mpr ⟨(List.forall_mem_cons.mpr ⟨nc_3_10, List.forall_mem_cons.mpr ⟨nc_4_10, List.forall_mem_cons.mpr ⟨nc_5_10, List.forall_mem_cons.mpr ⟨nc_7_10, List.forall_mem_cons.mpr ⟨nc_8_10, List.forall_mem_cons.mpr ⟨nc_9_10, List.forall_mem_cons.mpr ⟨nc_11_10, fun _ h => absurd h List.not_mem_nil⟩⟩⟩⟩⟩⟩⟩), List.forall_mem_cons.mpr ⟨(List.forall_mem_cons.mpr ⟨nc_3_11, List.forall_mem_cons.mpr ⟨nc_4_11, List.forall_mem_cons.mpr ⟨nc_5_11, List.forall_mem_cons.mpr ⟨nc_7_11, List.forall_mem_cons.mpr ⟨nc_8_11, List.forall_mem_cons.mpr ⟨nc_9_11, List.forall_mem_cons.mpr ⟨nc_10_11, fun _ h => absurd h List.not_mem_nil⟩⟩⟩⟩⟩⟩⟩), List.forall_mem_cons.mpr ⟨(List.forall_mem_cons.mpr ⟨nc_40_42, List.forall_mem_cons.mpr ⟨nc_41_42, List.forall_mem_cons.mpr ⟨nc_43_42, fun _ h => absurd h List.not_mem_nil⟩⟩⟩), List.forall_mem_cons.mpr ⟨(List.forall_mem_cons.mpr ⟨nc_40_43, List.forall_mem_cons.mpr ⟨nc_41_43, List.forall_mem_cons.mpr ⟨nc_42_43, fun _ h => absurd h List.not_mem_nil⟩⟩⟩), List.forall_mem_cons.mpr ⟨(List.forall_mem_cons.mpr ⟨nc_41_40, List.forall_mem_cons.mpr ⟨nc_42_40, List.forall_mem_cons.mpr ⟨nc_43_40, fun _ h => absurd h List.not_mem_nil⟩⟩⟩), List.forall_mem_cons.mpr ⟨(List.forall_mem_cons.mpr ⟨nc_40_41, List.forall_mem_cons.mpr ⟨nc_42_41, List.forall_mem_cons.mpr ⟨nc_43_41, fun _ h => absurd h List.not_mem_nil⟩⟩⟩), fun _ h => absurd h List.not_mem_nil⟩⟩⟩⟩⟩⟩⟩⟩⟩⟩⟩⟩⟩
