/-! methods by number: names, codes, answers; field links, callees. By wip/gen/okgen.py -/
set_option maxRecDepth 100000
noncomputable def ynTL : List (List (MethodName)) := [[⟨"BallotBusLaw", "law", "([I)Z"⟩, ⟨"BallotBusLaw", "asker", "(LBallotBus;II[J)I"⟩, ⟨"BallotBusLaw", "kind", "(LBallotBus;II[J)I"⟩, ⟨"BallotBusLaw", "ballot", "(LBallotBus;II[J)I"⟩, ⟨"BallotBusLaw", "order", "(LBallotBus;I[J)I"⟩, ⟨"BallotBusLaw", "request", "(LBallotBus;II[J)I"⟩, ⟨"BallotBusLaw", "line", "(LBallotBus;II[J)I"⟩, ⟨"BallotBusLaw", "answer", "(LBallotBus;II[J)I"⟩, ⟨"BallotBusLaw", "points", "(LBallotBus;I[J)I"⟩, ⟨"BallotBusLaw", "firsts", "(LBallotBus;II[J)I"⟩, ⟨"BallotBusLaw", "beats", "(LBallotBus;II[J)I"⟩, ⟨"BallotBusLaw", "wins", "(LBallotBus;I[J)I"⟩, ⟨"BallotBusLaw", "voted", "(LBallotBus;II[J)I"⟩, ⟨"BallotBusLaw", "isDecisive", "(LBallotBus;I[J)I"⟩, ⟨"BallotBusLaw", "differences", "(LBallotBus;II[J)I"⟩, ⟨"BallotBusLaw", "distance", "(LBallotBus;I[J)I"⟩, ⟨"BallotBusLaw", "middle", "(LBallotBus;I[J)I"⟩, ⟨"BallotBusLaw", "meanWait", "(LBallotBus;I[D)I"⟩, ⟨"BallotBusLaw", "share", "(LBallotBus;I[D)I"⟩, ⟨"BallotBusLaw", "run", "(LBallotBus;I[J)I"⟩, ⟨"BallotBusLaw", "ask", "(LBallotBus;III[J)I"⟩, ⟨"BallotBusLaw", "cancel", "(LBallotBus;I[J)I"⟩, ⟨"BallotBusLaw", "cast", "(LBallotBus;I[J)I"⟩, ⟨"BallotBusLaw", "veto", "(LBallotBus;II[J)I"⟩, ⟨"BallotBusLaw", "payBack", "(LBallotBus;I[J)I"⟩, ⟨"BallotBusLaw", "setTally", "(LBallotBus;I[J)I"⟩, ⟨"BallotBusLaw", "setManner", "(LBallotBus;II[J)I"⟩, ⟨"BallotBusLaw", "undo", "(LBallotBus;[J)I"⟩, ⟨"BallotBusLaw", "answeredIn", "(LBallotBus;II[J)I"⟩, ⟨"BallotBusLaw", "answersIn", "(LBallotBus;II[J)I"⟩, ⟨"BallotBusLaw", "bestVeto", "(LBallotBus;II[J)I"⟩, ⟨"BallotBusLaw", "bestTally", "(LBallotBus;I[J)I"⟩],
  [⟨"BallotBusLaw", "bestBallot", "(LBallotBus;I[J)I"⟩, ⟨"BallotBusLaw", "silentIn", "(LBallotBus;I[J)I"⟩, ⟨"BallotBusLaw", "restoreState", "(LBallotBus;[J)I"⟩, ⟨"BallotBus", "<init>", "()V"⟩, ⟨"BallotBus", "feed", "(IIIII)I"⟩, ⟨"BallotBus", "append", "(I)V"⟩, ⟨"BallotBus", "truncate", "(I)Z"⟩, ⟨"BallotBus", "inRange", "(III)Z"⟩, ⟨"BallotBus", "parse", "()I"⟩, ⟨"BallotBus", "errorCode", "()I"⟩, ⟨"BallotBus", "errorOffset", "()I"⟩, ⟨"BallotBus", "count", "(I)I"⟩, ⟨"BallotBus", "setup", "()LBallotBus$Setup;"⟩, ⟨"BallotBus", "find", "(Z)I"⟩, ⟨"BallotBus", "progress", "()I"⟩, ⟨"BallotBus", "champion", "()I"⟩, ⟨"BallotBus", "votes", "()I"⟩, ⟨"BallotBus", "debts", "()I"⟩, ⟨"BallotBus", "richest", "()I"⟩, ⟨"BallotBus", "emptyIn", "()I"⟩, ⟨"BallotBus", "printOrder", "()I"⟩, ⟨"BallotBus", "outputByte", "(I)I"⟩, ⟨"BallotBus", "saveState", "()I"⟩, ⟨"BallotBus", "asker", "(II)I"⟩, ⟨"BallotBus", "checkAsker", "(I)V"⟩, ⟨"BallotBus", "checkIndex", "(Z)V"⟩, ⟨"BallotBus", "waitingOf", "(II)I"⟩, ⟨"BallotBus", "kind", "(II)I"⟩, ⟨"BallotBus", "checkKind", "(I)V"⟩, ⟨"BallotBus", "placeInOrder", "(I)I"⟩, ⟨"BallotBus", "ballot", "(II)I"⟩, ⟨"BallotBus", "order", "(I)I"⟩],
  [⟨"BallotBus", "request", "(II)I"⟩, ⟨"BallotBus", "checkArgument", "(Z)V"⟩, ⟨"BallotBus", "checkElement", "(Z)V"⟩, ⟨"BallotBus", "line", "(II)I"⟩, ⟨"BallotBus", "answer", "(II)I"⟩, ⟨"BallotBus", "points", "(I)I"⟩, ⟨"BallotBus", "firsts", "(II)I"⟩, ⟨"BallotBus", "beats", "(II)Z"⟩, ⟨"BallotBus", "wins", "(I)I"⟩, ⟨"BallotBus", "voted", "(II)I"⟩, ⟨"BallotBus", "isDecisive", "(I)Z"⟩, ⟨"BallotBus", "differences", "(II)I"⟩, ⟨"BallotBus", "placeIn", "([II)I"⟩, ⟨"BallotBus", "distance", "(I)I"⟩, ⟨"BallotBus", "turned", "(I[I)I"⟩, ⟨"BallotBus", "middle", "(I)I"⟩, ⟨"BallotBus", "lambda$middle$0", "([I)V"⟩, ⟨"BallotBus", "keepIfMore", "([II)V"⟩, ⟨"BallotBus", "tryAll", "([IIILBallotBus$Trial;)V"⟩, ⟨"BallotBus", "meanWait", "(I)D"⟩, ⟨"BallotBus", "share", "(I)F"⟩, ⟨"BallotBus", "run", "(I)I"⟩, ⟨"BallotBus", "checkTicks", "(II)V"⟩, ⟨"BallotBus", "remember", "()V"⟩, ⟨"BallotBus", "ask", "(III)I"⟩, ⟨"BallotBus", "checkState", "(Z)V"⟩, ⟨"BallotBus", "cancel", "(I)I"⟩, ⟨"BallotBus", "cast", "(I)I"⟩, ⟨"BallotBus", "veto", "(II)I"⟩, ⟨"BallotBus", "payBack", "(I)I"⟩, ⟨"BallotBus", "setTally", "(I)I"⟩, ⟨"BallotBus", "setManner", "(II)I"⟩],
  [⟨"BallotBus", "undo", "()I"⟩, ⟨"BallotBus", "answeredIn", "(II)I"⟩, ⟨"BallotBus", "answersIn", "(II)I"⟩, ⟨"BallotBus", "bestVeto", "(II)I"⟩, ⟨"BallotBus", "bestTally", "(I)I"⟩, ⟨"BallotBus", "bestBallot", "(I)I"⟩, ⟨"BallotBus", "lambda$bestBallot$1", "(I[I)V"⟩, ⟨"BallotBus", "codeOf", "([I)I"⟩, ⟨"BallotBus", "silentIn", "(I)I"⟩, ⟨"BallotBus", "restoreState", "()I"⟩, ⟨"BallotBus$Tally", "values", "()[LBallotBus$Tally;"⟩, ⟨"BallotBus$Tally", "order", "(LBallotBus$Sheet;[I)V"⟩, ⟨"BallotBus$Setup", "<init>", "()V"⟩, ⟨"BallotBus$Setup", "addClass", "(Ljava/lang/String;I)V"⟩, ⟨"BallotBus$Setup", "classes", "()I"⟩, ⟨"BallotBus$Setup", "addAsker", "(Ljava/lang/String;II)V"⟩, ⟨"BallotBus$Setup", "askers", "()I"⟩, ⟨"BallotBus$Bus", "<init>", "(LBallotBus$Setup;LBallotBus$Tally;)V"⟩, ⟨"BallotBus$Bus", "lambda$new$0", "(LBallotBus$Request;)I"⟩, ⟨"BallotBus$Bus", "lambda$new$1", "(LBallotBus$Request;)I"⟩, ⟨"BallotBus$Bus", "lambda$new$2", "(LBallotBus$Request;)I"⟩, ⟨"BallotBus$Bus", "lambda$new$3", "(LBallotBus$Request;)I"⟩, ⟨"BallotBus$Bus", "count", "(I)LBallotBus$Sheet;"⟩, ⟨"BallotBus$Bus", "counts", "(I)Z"⟩, ⟨"BallotBus$Bus", "copy", "()LBallotBus$Bus;"⟩, ⟨"BallotBus$Bus", "take", "([I[I)V"⟩, ⟨"BallotBus$Bus", "openRequests", "()I"⟩, ⟨"BallotBus$Bus", "tick", "()V"⟩, ⟨"BallotBus$Bus", "vote", "()V"⟩, ⟨"BallotBus$Bus", "pass", "()V"⟩, ⟨"BallotBus$Bus", "fetch", "()V"⟩, ⟨"BallotBus$Bus", "isVetoed", "(I)Z"⟩],
  [⟨"BallotBus$Bus", "first", "(I)LBallotBus$Request;"⟩, ⟨"BallotBus$Bus", "drop", "(I)LBallotBus$Request;"⟩, ⟨"BallotBus$Bus", "placeOf", "(I)I"⟩, ⟨"BallotBus$Bus", "answer", "()V"⟩, ⟨"BallotBus$Bus", "find", "(I)LBallotBus$Request;"⟩, ⟨"BallotBus$Bus", "lay", "(LBallotBus$Tally;I[I)V"⟩, ⟨"BallotBus$Bus", "run", "(I)I"⟩, ⟨"BallotBus$Bus", "cast", "(I)Z"⟩, ⟨"BallotBus$Bus", "canVeto", "(II)Z"⟩, ⟨"BallotBus$Bus", "veto", "(II)V"⟩, ⟨"BallotBus$Sheet", "<init>", "(I)V"⟩, ⟨"BallotBus$Sheet", "clear", "()V"⟩, ⟨"BallotBus$Sheet", "add", "([III)V"⟩, ⟨"BallotBus$Sheet", "wins", "(I)I"⟩, ⟨"BallotBus$Sheet", "beats", "(II)Z"⟩, ⟨"BallotBusModel", "<init>", "()V"⟩, ⟨"BallotBusModel", "clears", "()V"⟩, ⟨"BallotBusModel", "takesDraft", "()V"⟩, ⟨"BallotBusModel", "copies", "([I[I)V"⟩, ⟨"BallotBusModel", "thrown", "()I"⟩, ⟨"BallotBusModel", "undo", "()I"⟩, ⟨"BallotBusModel", "is", "(Z)Z"⟩, ⟨"BallotBusModel", "saveState", "()I"⟩, ⟨"BallotBusModel", "restoreState", "()I"⟩, ⟨"BallotBusModel", "run", "(I)I"⟩, ⟨"BallotBusModel", "areTicks", "(I)Z"⟩, ⟨"BallotBusModel", "isIn", "(JJJ)Z"⟩, ⟨"BallotBusModel", "starts", "()V"⟩, ⟨"BallotBusModel", "goesOn", "(II)I"⟩, ⟨"BallotBusModel", "answeredOf", "(I)I"⟩, ⟨"BallotBusModel", "ticks", "()V"⟩, ⟨"BallotBusModel", "ordersAnew", "()V"⟩],
  [⟨"BallotBusModel", "tallies", "(I)V"⟩, ⟨"BallotBusModel", "doesAnyCount", "()Z"⟩, ⟨"BallotBusModel", "counts", "(I)Z"⟩, ⟨"BallotBusModel", "isBetter", "(III)Z"⟩, ⟨"BallotBusModel", "firstsOf", "(II)I"⟩, ⟨"BallotBusModel", "onBallot", "(II)I"⟩, ⟨"BallotBusModel", "winsOf", "(I)I"⟩, ⟨"BallotBusModel", "doesBeat", "(II)Z"⟩, ⟨"BallotBusModel", "leadOf", "(II)I"⟩, ⟨"BallotBusModel", "placeOf", "(II)I"⟩, ⟨"BallotBusModel", "pointsOf", "(I)I"⟩, ⟨"BallotBusModel", "passesOn", "()V"⟩, ⟨"BallotBusModel", "lesser", "(II)I"⟩, ⟨"BallotBusModel", "takesNext", "()V"⟩, ⟨"BallotBusModel", "has", "(II)Z"⟩, ⟨"BallotBusModel", "inLine", "(II)I"⟩, ⟨"BallotBusModel", "isInLine", "(II)Z"⟩, ⟨"BallotBusModel", "of", "(II)I"⟩, ⟨"BallotBusModel", "doesWait", "(I)Z"⟩, ⟨"BallotBusModel", "aheadOf", "(I)I"⟩, ⟨"BallotBusModel", "isAhead", "(II)Z"⟩, ⟨"BallotBusModel", "claimOf", "(I)I"⟩, ⟨"BallotBusModel", "worksOn", "()V"⟩, ⟨"BallotBusModel", "indexOf", "(I)I"⟩, ⟨"BallotBusModel", "answers", "(I)V"⟩, ⟨"BallotBusModel", "takesOut", "(I)V"⟩, ⟨"BallotBusModel", "done", "(I)I"⟩, ⟨"BallotBusModel", "ask", "(III)I"⟩, ⟨"BallotBusModel", "isAsker", "(I)Z"⟩, ⟨"BallotBusModel", "isClass", "(I)Z"⟩, ⟨"BallotBusModel", "may", "(ZI)Z"⟩, ⟨"BallotBusModel", "comes", "(III)I"⟩],
  [⟨"BallotBusModel", "cancel", "(I)I"⟩, ⟨"BallotBusModel", "cast", "(I)I"⟩, ⟨"BallotBusModel", "isBallot", "(I)Z"⟩, ⟨"BallotBusModel", "casts", "()I"⟩, ⟨"BallotBusModel", "veto", "(II)I"⟩, ⟨"BallotBusModel", "canVeto", "(II)Z"⟩, ⟨"BallotBusModel", "debtBehind", "(I)I"⟩, ⟨"BallotBusModel", "greater", "(II)I"⟩, ⟨"BallotBusModel", "vetoes", "(II)I"⟩, ⟨"BallotBusModel", "payBack", "(I)I"⟩, ⟨"BallotBusModel", "setTally", "(I)I"⟩, ⟨"BallotBusModel", "isTally", "(I)Z"⟩, ⟨"BallotBusModel", "puts", "(II)I"⟩, ⟨"BallotBusModel", "setManner", "(II)I"⟩, ⟨"BallotBusModel", "count", "(I)I"⟩, ⟨"BallotBusModel", "waiting", "()I"⟩, ⟨"BallotBusModel", "asker", "(II)I"⟩, ⟨"BallotBusModel", "waitingOf", "(I)I"⟩, ⟨"BallotBusModel", "kind", "(II)I"⟩, ⟨"BallotBusModel", "waitingIn", "(I)I"⟩, ⟨"BallotBusModel", "placeInOrder", "(I)I"⟩, ⟨"BallotBusModel", "serialAt", "(I)I"⟩, ⟨"BallotBusModel", "ballot", "(II)I"⟩, ⟨"BallotBusModel", "order", "(I)I"⟩, ⟨"BallotBusModel", "request", "(II)I"⟩, ⟨"BallotBusModel", "line", "(II)I"⟩, ⟨"BallotBusModel", "progress", "()I"⟩, ⟨"BallotBusModel", "answer", "(II)I"⟩, ⟨"BallotBusModel", "points", "(I)I"⟩, ⟨"BallotBusModel", "firsts", "(II)I"⟩, ⟨"BallotBusModel", "beats", "(II)Z"⟩, ⟨"BallotBusModel", "wins", "(I)I"⟩],
  [⟨"BallotBusModel", "champion", "()I"⟩, ⟨"BallotBusModel", "voted", "(II)I"⟩, ⟨"BallotBusModel", "votes", "()I"⟩, ⟨"BallotBusModel", "differences", "(II)I"⟩, ⟨"BallotBusModel", "placeInOutcome", "(I)I"⟩, ⟨"BallotBusModel", "isDecisive", "(I)Z"⟩, ⟨"BallotBusModel", "distance", "(I)I"⟩, ⟨"BallotBusModel", "pairsApart", "(I)I"⟩, ⟨"BallotBusModel", "middle", "(I)I"⟩, ⟨"BallotBusModel", "codes", "()I"⟩, ⟨"BallotBusModel", "sumApart", "()I"⟩, ⟨"BallotBusModel", "meanWait", "(I)D"⟩, ⟨"BallotBusModel", "share", "(I)F"⟩, ⟨"BallotBusModel", "debts", "()I"⟩, ⟨"BallotBusModel", "richest", "()I"⟩, ⟨"BallotBusModel", "worthOf", "(I)I"⟩, ⟨"BallotBusModel", "answeredIn", "(II)I"⟩, ⟨"BallotBusModel", "tries", "()V"⟩, ⟨"BallotBusModel", "laysBack", "(I)I"⟩, ⟨"BallotBusModel", "answersIn", "(II)I"⟩, ⟨"BallotBusModel", "wouldAnswer", "(II)I"⟩, ⟨"BallotBusModel", "bestVeto", "(II)I"⟩, ⟨"BallotBusModel", "vetoBrings", "(III)I"⟩, ⟨"BallotBusModel", "bestTally", "(I)I"⟩, ⟨"BallotBusModel", "bestBallot", "(I)I"⟩, ⟨"BallotBusModel", "silentIn", "(I)I"⟩, ⟨"BallotBusModel", "emptyIn", "()I"⟩, ⟨"BallotBusModel", "feed", "(IIIII)I"⟩, ⟨"BallotBusModel", "truncate", "(I)Z"⟩, ⟨"BallotBusModel", "parse", "()I"⟩, ⟨"BallotBusModel", "next", "()V"⟩, ⟨"BallotBusModel", "here", "(I)I"⟩],
  [⟨"BallotBusModel", "isLetter", "(I)Z"⟩, ⟨"BallotBusModel", "wordHere", "()I"⟩, ⟨"BallotBusModel", "fine", "()Z"⟩, ⟨"BallotBusModel", "statement", "()V"⟩, ⟨"BallotBusModel", "isWord", "(I)Z"⟩, ⟨"BallotBusModel", "readsClass", "()V"⟩, ⟨"BallotBusModel", "needs", "(ZI)V"⟩, ⟨"BallotBusModel", "goOn", "()V"⟩, ⟨"BallotBusModel", "fresh", "([JI)J"⟩, ⟨"BallotBusModel", "isName", "()Z"⟩, ⟨"BallotBusModel", "indexOf", "([JIJ)I"⟩, ⟨"BallotBusModel", "readsAsker", "()V"⟩, ⟨"BallotBusModel", "number", "(II)I"⟩, ⟨"BallotBusModel", "readsAsk", "()V"⟩, ⟨"BallotBusModel", "known", "([JI)I"⟩, ⟨"BallotBusModel", "readsOnce", "(I)V"⟩, ⟨"BallotBusModel", "readsTally", "()V"⟩, ⟨"BallotBusModel", "readsNumber", "(I)V"⟩, ⟨"BallotBusModel", "errorCode", "()I"⟩, ⟨"BallotBusModel", "errorOffset", "()I"⟩, ⟨"BallotBusModel", "find", "(Z)I"⟩, ⟨"BallotBusModel", "printOrder", "()I"⟩, ⟨"BallotBusModel", "says", "(I)V"⟩, ⟨"BallotBusModel", "saysName", "(J)V"⟩, ⟨"BallotBusModel", "outputByte", "(I)I"⟩, ⟨"BallotBus$Parser", "<init>", "(LBallotBus;)V"⟩, ⟨"BallotBus$Parser", "advance", "()V"⟩, ⟨"BallotBus$Parser", "byteAt", "(I)I"⟩, ⟨"BallotBus$Parser", "parse", "()LBallotBus$Setup;"⟩, ⟨"BallotBus$Parser", "statement", "()V"⟩, ⟨"BallotBus$Parser", "readClass", "()V"⟩, ⟨"BallotBus$Parser", "require", "(ZI)V"⟩],
  [⟨"BallotBus$Parser", "newName", "(Ljava/util/TreeMap;)Ljava/lang/String;"⟩, ⟨"BallotBus$Parser", "name", "()V"⟩, ⟨"BallotBus$Parser", "accept", "(Ljava/lang/String;)Z"⟩, ⟨"BallotBus$Parser", "readAsker", "()V"⟩, ⟨"BallotBus$Parser", "number", "(II)I"⟩, ⟨"BallotBus$Parser", "readAsk", "()V"⟩, ⟨"BallotBus$Parser", "oldName", "(Ljava/util/TreeMap;)I"⟩, ⟨"BallotBus$Parser", "readTally", "()V"⟩, ⟨"BallotBus$Parser", "only", "()V"⟩, ⟨"BallotBus$Parser", "single", "(II)I"⟩, ⟨"BallotBus$ParseException", "<init>", "(II)V"⟩, ⟨"BallotBus$Request", "<init>", "(IIIII)V"⟩, ⟨"BallotBus$ByMeasure", "compare", "(Ljava/lang/Object;Ljava/lang/Object;)I"⟩, ⟨"BallotBus$ByMeasure", "compare", "(LBallotBus$Request;LBallotBus$Request;)I"⟩, ⟨"BallotBus$ByMeasure", "<init>", "(LBallotBus$Measure;)V"⟩, ⟨"BallotBus$Tally$3", "more", "(LBallotBus$Sheet;II)I"⟩, ⟨"BallotBus$Tally$1", "more", "(LBallotBus$Sheet;II)I"⟩, ⟨"BallotBus$Tally$2", "more", "(LBallotBus$Sheet;II)I"⟩, ⟨"java/lang/Enum", "compareTo", "(Ljava/lang/Object;)I"⟩, ⟨"java/lang/Enum", "compareTo", "(Ljava/lang/Enum;)I"⟩, ⟨"java/lang/Enum", "getDeclaringClass", "()Ljava/lang/Class;"⟩, ⟨"java/lang/Enum", "equals", "(Ljava/lang/Object;)Z"⟩, ⟨"java/lang/Enum", "ordinal", "()I"⟩, ⟨"java/util/AbstractCollection", "<init>", "()V"⟩, ⟨"java/util/AbstractList", "<init>", "()V"⟩, ⟨"java/util/ArrayList", "<init>", "()V"⟩, ⟨"java/util/ArrayList", "add", "(Ljava/lang/Object;)Z"⟩, ⟨"java/util/ArrayList", "add", "(Ljava/lang/Object;[Ljava/lang/Object;I)V"⟩, ⟨"java/util/ArrayList", "grow", "()[Ljava/lang/Object;"⟩, ⟨"java/util/ArrayList", "grow", "(I)[Ljava/lang/Object;"⟩, ⟨"java/util/ArrayList", "addAll", "(Ljava/util/Collection;)Z"⟩, ⟨"java/util/ArrayList", "toArray", "()[Ljava/lang/Object;"⟩],
  [⟨"java/util/ArrayList", "size", "()I"⟩, ⟨"java/util/ArrayList", "contains", "(Ljava/lang/Object;)Z"⟩, ⟨"java/util/ArrayList", "indexOf", "(Ljava/lang/Object;)I"⟩, ⟨"java/util/ArrayList", "indexOfRange", "(Ljava/lang/Object;II)I"⟩, ⟨"java/util/ArrayList", "clear", "()V"⟩, ⟨"java/util/ArrayList", "get", "(I)Ljava/lang/Object;"⟩, ⟨"java/util/ArrayList", "elementData", "(I)Ljava/lang/Object;"⟩, ⟨"java/util/ArrayList", "remove", "(I)Ljava/lang/Object;"⟩, ⟨"java/util/ArrayList", "fastRemove", "([Ljava/lang/Object;I)V"⟩, ⟨"java/util/ArrayList", "iterator", "()Ljava/util/Iterator;"⟩, ⟨"java/util/ArrayList", "isEmpty", "()Z"⟩, ⟨"java/lang/AbstractStringBuilder", "<init>", "(I)V"⟩, ⟨"java/lang/AbstractStringBuilder", "compareTo", "(Ljava/lang/AbstractStringBuilder;)I"⟩, ⟨"java/lang/AbstractStringBuilder", "isLatin1", "()Z"⟩, ⟨"java/lang/AbstractStringBuilder", "append", "(C)Ljava/lang/AbstractStringBuilder;"⟩, ⟨"java/lang/AbstractStringBuilder", "ensureCapacityInternal", "(I)V"⟩, ⟨"java/lang/AbstractStringBuilder", "newCapacity", "(I)I"⟩, ⟨"java/lang/AbstractStringBuilder", "inflate", "()V"⟩, ⟨"java/lang/AbstractStringBuilder", "getValue", "()[B"⟩, ⟨"java/lang/AbstractStringBuilder", "length", "()I"⟩, ⟨"java/lang/AbstractStringBuilder", "append", "(I)Ljava/lang/AbstractStringBuilder;"⟩, ⟨"java/lang/AbstractStringBuilder", "append", "(Ljava/lang/String;)Ljava/lang/AbstractStringBuilder;"⟩, ⟨"java/lang/AbstractStringBuilder", "appendNull", "()Ljava/lang/AbstractStringBuilder;"⟩, ⟨"java/lang/AbstractStringBuilder", "putStringAt", "(ILjava/lang/String;)V"⟩, ⟨"java/lang/AbstractStringBuilder", "inflateIfNeededFor", "(Ljava/lang/String;)V"⟩, ⟨"java/lang/AbstractStringBuilder", "setLength", "(I)V"⟩, ⟨"java/lang/AbstractStringBuilder", "charAt", "(I)C"⟩, ⟨"java/lang/StringBuilder", "<init>", "()V"⟩, ⟨"java/lang/StringBuilder", "compareTo", "(Ljava/lang/Object;)I"⟩, ⟨"java/lang/StringBuilder", "compareTo", "(Ljava/lang/StringBuilder;)I"⟩, ⟨"java/lang/StringBuilder", "append", "(C)Ljava/lang/StringBuilder;"⟩, ⟨"java/lang/StringBuilder", "toString", "()Ljava/lang/String;"⟩],
  [⟨"java/lang/StringBuilder", "length", "()I"⟩, ⟨"java/lang/StringBuilder", "append", "(I)Ljava/lang/StringBuilder;"⟩, ⟨"java/lang/StringBuilder", "append", "(Ljava/lang/String;)Ljava/lang/StringBuilder;"⟩, ⟨"java/lang/StringBuilder", "setLength", "(I)V"⟩, ⟨"java/lang/StringBuilder", "charAt", "(I)C"⟩, ⟨"java/lang/String", "compareTo", "(Ljava/lang/Object;)I"⟩, ⟨"java/lang/String", "compareTo", "(Ljava/lang/String;)I"⟩, ⟨"java/lang/String", "coder", "()B"⟩, ⟨"java/lang/String", "checkOffset", "(II)V"⟩, ⟨"java/lang/String", "checkBoundsOffCount", "(III)I"⟩, ⟨"java/lang/String", "checkIndex", "(II)V"⟩, ⟨"java/lang/String", "<init>", "(Ljava/lang/StringBuilder;)V"⟩, ⟨"java/lang/String", "<init>", "(Ljava/lang/AbstractStringBuilder;Ljava/lang/Void;)V"⟩, ⟨"java/lang/String", "checkBoundsBeginEnd", "(III)V"⟩, ⟨"java/lang/String", "length", "()I"⟩, ⟨"java/lang/String", "getBytes", "([BIB)V"⟩, ⟨"java/lang/String", "hashCode", "()I"⟩, ⟨"java/lang/String", "isLatin1", "()Z"⟩, ⟨"java/lang/String", "equals", "(Ljava/lang/Object;)Z"⟩, ⟨"java/lang/String", "charAt", "(I)C"⟩, ⟨"java/lang/StringUTF16", "newBytesFor", "(I)[B"⟩, ⟨"java/lang/StringUTF16", "newBytesLength", "(I)I"⟩, ⟨"java/lang/StringUTF16", "compareTo", "([B[B)I"⟩, ⟨"java/lang/StringUTF16", "length", "([B)I"⟩, ⟨"java/lang/StringUTF16", "compareValues", "([B[BII)I"⟩, ⟨"java/lang/StringUTF16", "getChar", "([BI)C"⟩, ⟨"java/lang/StringUTF16", "compareToLatin1", "([B[B)I"⟩, ⟨"java/lang/StringUTF16", "compareTo", "([B[BII)I"⟩, ⟨"java/lang/StringUTF16", "checkOffset", "(I[B)V"⟩, ⟨"java/lang/StringUTF16", "compareToLatin1", "([B[BII)I"⟩, ⟨"java/lang/StringUTF16", "inflate", "([BI[BII)V"⟩, ⟨"java/lang/StringUTF16", "checkBoundsOffCount", "(II[B)V"⟩],
  [⟨"java/lang/StringUTF16", "putChar", "([BII)V"⟩, ⟨"java/lang/StringUTF16", "putCharSB", "([BII)V"⟩, ⟨"java/lang/StringUTF16", "checkIndex", "(I[B)V"⟩, ⟨"java/lang/StringUTF16", "getChars", "(III[B)I"⟩, ⟨"java/lang/StringUTF16", "checkBoundsBeginEnd", "(II[B)V"⟩, ⟨"java/lang/StringUTF16", "getChars", "(II[B)I"⟩, ⟨"java/lang/StringUTF16", "putCharsAt", "([BICCCC)I"⟩, ⟨"java/lang/StringUTF16", "compress", "([BII)[B"⟩, ⟨"java/lang/StringUTF16", "compress", "([BI[BII)I"⟩, ⟨"java/lang/StringUTF16", "coderFromArrayLen", "([BI)B"⟩, ⟨"java/lang/StringUTF16", "hashCode", "([B)I"⟩, ⟨"java/lang/StringUTF16", "fillNull", "([BII)V"⟩, ⟨"java/lang/StringUTF16", "charAt", "([BI)C"⟩, ⟨"java/util/AbstractMap", "<init>", "()V"⟩, ⟨"java/util/TreeMap", "<init>", "()V"⟩, ⟨"java/util/TreeMap", "size", "()I"⟩, ⟨"java/util/TreeMap", "put", "(Ljava/lang/Object;Ljava/lang/Object;)Ljava/lang/Object;"⟩, ⟨"java/util/TreeMap", "put", "(Ljava/lang/Object;Ljava/lang/Object;Z)Ljava/lang/Object;"⟩, ⟨"java/util/TreeMap", "addEntryToEmptyMap", "(Ljava/lang/Object;Ljava/lang/Object;)V"⟩, ⟨"java/util/TreeMap", "compare", "(Ljava/lang/Object;Ljava/lang/Object;)I"⟩, ⟨"java/util/TreeMap", "addEntry", "(Ljava/lang/Object;Ljava/lang/Object;Ljava/util/TreeMap$Entry;Z)V"⟩, ⟨"java/util/TreeMap", "fixAfterInsertion", "(Ljava/util/TreeMap$Entry;)V"⟩, ⟨"java/util/TreeMap", "parentOf", "(Ljava/util/TreeMap$Entry;)Ljava/util/TreeMap$Entry;"⟩, ⟨"java/util/TreeMap", "leftOf", "(Ljava/util/TreeMap$Entry;)Ljava/util/TreeMap$Entry;"⟩, ⟨"java/util/TreeMap", "rightOf", "(Ljava/util/TreeMap$Entry;)Ljava/util/TreeMap$Entry;"⟩, ⟨"java/util/TreeMap", "colorOf", "(Ljava/util/TreeMap$Entry;)Z"⟩, ⟨"java/util/TreeMap", "setColor", "(Ljava/util/TreeMap$Entry;Z)V"⟩, ⟨"java/util/TreeMap", "rotateLeft", "(Ljava/util/TreeMap$Entry;)V"⟩, ⟨"java/util/TreeMap", "rotateRight", "(Ljava/util/TreeMap$Entry;)V"⟩, ⟨"java/util/TreeMap", "containsKey", "(Ljava/lang/Object;)Z"⟩, ⟨"java/util/TreeMap", "getEntry", "(Ljava/lang/Object;)Ljava/util/TreeMap$Entry;"⟩, ⟨"java/util/TreeMap", "getEntryUsingComparator", "(Ljava/lang/Object;)Ljava/util/TreeMap$Entry;"⟩],
  [⟨"java/util/TreeMap", "get", "(Ljava/lang/Object;)Ljava/lang/Object;"⟩, ⟨"jdk/internal/util/ArraysSupport", "newLength", "(III)I"⟩, ⟨"jdk/internal/util/ArraysSupport", "hugeLength", "(II)I"⟩, ⟨"jdk/internal/util/ArraysSupport", "mismatch", "([B[BI)I"⟩, ⟨"jdk/internal/util/ArraysSupport", "vectorizedMismatch", "(Ljava/lang/Object;JLjava/lang/Object;JII)I"⟩, ⟨"jdk/internal/util/ArraysSupport", "vectorizedHashCode", "(Ljava/lang/Object;IIII)I"⟩, ⟨"jdk/internal/util/ArraysSupport", "signedHashCode", "(I[BII)I"⟩, ⟨"jdk/internal/util/ArraysSupport", "utf16hashCode", "(I[BII)I"⟩, ⟨"jdk/internal/util/ArraysSupport", "hashCode", "(I[CII)I"⟩, ⟨"jdk/internal/util/ArraysSupport", "hashCode", "(I[BII)I"⟩, ⟨"jdk/internal/util/ArraysSupport", "hashCode", "(I[SII)I"⟩, ⟨"jdk/internal/util/ArraysSupport", "hashCode", "(I[III)I"⟩, ⟨"java/lang/Math", "max", "(II)I"⟩, ⟨"java/lang/Math", "min", "(II)I"⟩, ⟨"java/util/Arrays", "copyOf", "([Ljava/lang/Object;I)[Ljava/lang/Object;"⟩, ⟨"java/util/Arrays", "copyOf", "([Ljava/lang/Object;ILjava/lang/Class;)[Ljava/lang/Object;"⟩, ⟨"java/util/Arrays", "copyOf", "([BI)[B"⟩, ⟨"java/util/Arrays", "copyOfRange", "([BII)[B"⟩, ⟨"java/util/Arrays", "copyOfRangeByte", "([BII)[B"⟩, ⟨"java/util/Arrays", "checkLength", "(II)V"⟩, ⟨"java/util/Arrays", "copyOf", "([JI)[J"⟩, ⟨"java/util/Arrays", "fill", "([BIIB)V"⟩, ⟨"java/util/Arrays", "rangeCheck", "(III)V"⟩, ⟨"java/lang/Number", "<init>", "()V"⟩, ⟨"java/lang/Integer", "valueOf", "(I)Ljava/lang/Integer;"⟩, ⟨"java/lang/Integer", "<init>", "(I)V"⟩, ⟨"java/lang/Integer", "compareTo", "(Ljava/lang/Object;)I"⟩, ⟨"java/lang/Integer", "compareTo", "(Ljava/lang/Integer;)I"⟩, ⟨"java/lang/Integer", "compare", "(II)I"⟩, ⟨"java/lang/Integer", "numberOfLeadingZeros", "(I)I"⟩, ⟨"java/lang/Integer", "numberOfTrailingZeros", "(I)I"⟩, ⟨"java/lang/Integer", "stringSize", "(I)I"⟩],
  [⟨"java/lang/Integer", "getChars", "(II[B)I"⟩, ⟨"java/lang/Integer", "equals", "(Ljava/lang/Object;)Z"⟩, ⟨"java/lang/Integer", "intValue", "()I"⟩, ⟨"java/lang/StringLatin1", "compareTo", "([B[B)I"⟩, ⟨"java/lang/StringLatin1", "compareTo", "([B[BII)I"⟩, ⟨"java/lang/StringLatin1", "getChar", "([BI)C"⟩, ⟨"java/lang/StringLatin1", "compareToUTF16", "([B[B)I"⟩, ⟨"java/lang/StringLatin1", "length", "([B)I"⟩, ⟨"java/lang/StringLatin1", "compareToUTF16Values", "([B[BII)I"⟩, ⟨"java/lang/StringLatin1", "compareToUTF16", "([B[BII)I"⟩, ⟨"java/lang/StringLatin1", "canEncode", "(C)Z"⟩, ⟨"java/lang/StringLatin1", "inflate", "([BI[BII)V"⟩, ⟨"java/lang/StringLatin1", "hashCode", "([B)I"⟩, ⟨"java/lang/StringLatin1", "equals", "([B[B)Z"⟩, ⟨"java/lang/StringLatin1", "fillNull", "([BII)V"⟩, ⟨"java/lang/StringLatin1", "charAt", "([BI)C"⟩, ⟨"jdk/internal/misc/Unsafe", "getLongUnaligned", "(Ljava/lang/Object;J)J"⟩, ⟨"jdk/internal/misc/Unsafe", "makeLong", "(II)J"⟩, ⟨"jdk/internal/misc/Unsafe", "toUnsignedLong", "(I)J"⟩, ⟨"jdk/internal/misc/Unsafe", "pickPos", "(II)I"⟩, ⟨"jdk/internal/misc/Unsafe", "makeLong", "(SSSS)J"⟩, ⟨"jdk/internal/misc/Unsafe", "toUnsignedLong", "(S)J"⟩, ⟨"jdk/internal/misc/Unsafe", "makeLong", "(BBBBBBBB)J"⟩, ⟨"jdk/internal/misc/Unsafe", "toUnsignedLong", "(B)J"⟩, ⟨"jdk/internal/misc/Unsafe", "getIntUnaligned", "(Ljava/lang/Object;J)I"⟩, ⟨"jdk/internal/misc/Unsafe", "makeInt", "(SS)I"⟩, ⟨"jdk/internal/misc/Unsafe", "toUnsignedInt", "(S)I"⟩, ⟨"jdk/internal/misc/Unsafe", "makeInt", "(BBBB)I"⟩, ⟨"jdk/internal/misc/Unsafe", "toUnsignedInt", "(B)I"⟩, ⟨"java/lang/Long", "numberOfLeadingZeros", "(J)I"⟩, ⟨"java/lang/Long", "numberOfTrailingZeros", "(J)I"⟩, ⟨"jdk/internal/util/Preconditions", "checkFromToIndex", "(IIILjava/util/function/BiFunction;)I"⟩],
  [⟨"jdk/internal/util/Preconditions", "checkFromIndexSize", "(IIILjava/util/function/BiFunction;)I"⟩, ⟨"jdk/internal/util/Preconditions", "checkIndex", "(IILjava/util/function/BiFunction;)I"⟩, ⟨"java/util/TreeMap$Entry", "<init>", "(Ljava/lang/Object;Ljava/lang/Object;Ljava/util/TreeMap$Entry;)V"⟩, ⟨"java/util/Objects", "requireNonNull", "(Ljava/lang/Object;)Ljava/lang/Object;"⟩, ⟨"java/util/Objects", "equals", "(Ljava/lang/Object;Ljava/lang/Object;)Z"⟩, ⟨"java/util/Objects", "checkIndex", "(II)I"⟩, ⟨"java/util/ImmutableCollections", "listFromArray", "([Ljava/lang/Object;)Ljava/util/List;"⟩, ⟨"java/util/List", "of", "([Ljava/lang/Object;)Ljava/util/List;"⟩, ⟨"java/util/ImmutableCollections$AbstractImmutableCollection", "add", "(Ljava/lang/Object;)Z"⟩, ⟨"java/util/ImmutableCollections$AbstractImmutableCollection", "addAll", "(Ljava/util/Collection;)Z"⟩, ⟨"java/util/ImmutableCollections$AbstractImmutableCollection", "<init>", "()V"⟩, ⟨"java/util/ImmutableCollections$AbstractImmutableCollection", "clear", "()V"⟩, ⟨"java/util/ImmutableCollections$AbstractImmutableList", "<init>", "()V"⟩, ⟨"java/util/ImmutableCollections$AbstractImmutableList", "contains", "(Ljava/lang/Object;)Z"⟩, ⟨"java/util/ImmutableCollections$AbstractImmutableList", "outOfBounds", "(I)Ljava/lang/IndexOutOfBoundsException;"⟩, ⟨"java/util/ImmutableCollections$AbstractImmutableList", "remove", "(I)Ljava/lang/Object;"⟩, ⟨"java/util/ImmutableCollections$AbstractImmutableList", "iterator", "()Ljava/util/Iterator;"⟩, ⟨"java/util/ImmutableCollections$List12", "toArray", "()[Ljava/lang/Object;"⟩, ⟨"java/util/ImmutableCollections$List12", "size", "()I"⟩, ⟨"java/util/ImmutableCollections$List12", "<init>", "(Ljava/lang/Object;)V"⟩, ⟨"java/util/ImmutableCollections$List12", "<init>", "(Ljava/lang/Object;Ljava/lang/Object;)V"⟩, ⟨"java/util/ImmutableCollections$List12", "indexOf", "(Ljava/lang/Object;)I"⟩, ⟨"java/util/ImmutableCollections$List12", "get", "(I)Ljava/lang/Object;"⟩, ⟨"java/util/ImmutableCollections$List12", "isEmpty", "()Z"⟩, ⟨"java/util/ImmutableCollections$ListN", "toArray", "()[Ljava/lang/Object;"⟩, ⟨"java/util/ImmutableCollections$ListN", "size", "()I"⟩, ⟨"java/util/ImmutableCollections$ListN", "<init>", "([Ljava/lang/Object;Z)V"⟩, ⟨"java/util/ImmutableCollections$ListN", "indexOf", "(Ljava/lang/Object;)I"⟩, ⟨"java/util/ImmutableCollections$ListN", "get", "(I)Ljava/lang/Object;"⟩, ⟨"java/util/ImmutableCollections$ListN", "isEmpty", "()Z"⟩, ⟨"java/util/BitSet", "<init>", "()V"⟩, ⟨"java/util/BitSet", "initWords", "(I)V"⟩],
  [⟨"java/util/BitSet", "wordIndex", "(I)I"⟩, ⟨"java/util/BitSet", "get", "(I)Z"⟩, ⟨"java/util/BitSet", "checkInvariants", "()V"⟩, ⟨"java/util/BitSet", "set", "(I)V"⟩, ⟨"java/util/BitSet", "expandTo", "(I)V"⟩, ⟨"java/util/BitSet", "ensureCapacity", "(I)V"⟩, ⟨"java/lang/Throwable", "<init>", "()V"⟩, ⟨"java/lang/Throwable", "<init>", "(Ljava/lang/String;)V"⟩, ⟨"java/lang/Throwable", "<init>", "(Ljava/lang/String;Ljava/lang/Throwable;ZZ)V"⟩, ⟨"java/lang/Exception", "<init>", "(Ljava/lang/String;)V"⟩, ⟨"java/lang/Exception", "<init>", "(Ljava/lang/String;Ljava/lang/Throwable;ZZ)V"⟩, ⟨"java/lang/Exception", "<init>", "()V"⟩, ⟨"java/lang/RuntimeException", "<init>", "(Ljava/lang/String;)V"⟩, ⟨"java/lang/RuntimeException", "<init>", "()V"⟩, ⟨"java/lang/IllegalArgumentException", "<init>", "(Ljava/lang/String;)V"⟩, ⟨"java/lang/IllegalArgumentException", "<init>", "()V"⟩, ⟨"java/lang/IndexOutOfBoundsException", "<init>", "(Ljava/lang/String;)V"⟩, ⟨"java/lang/IndexOutOfBoundsException", "<init>", "()V"⟩, ⟨"java/lang/ArrayIndexOutOfBoundsException", "<init>", "(I)V"⟩, ⟨"java/lang/ArrayIndexOutOfBoundsException", "<init>", "(Ljava/lang/String;)V"⟩, ⟨"java/util/ArrayList$Itr", "<init>", "(Ljava/util/ArrayList;)V"⟩, ⟨"java/util/ArrayList$Itr", "hasNext", "()Z"⟩, ⟨"java/util/ArrayList$Itr", "next", "()Ljava/lang/Object;"⟩, ⟨"java/util/ArrayList$Itr", "checkForComodification", "()V"⟩, ⟨"java/util/ImmutableCollections$ListItr", "<init>", "(Ljava/util/List;I)V"⟩, ⟨"java/util/ImmutableCollections$ListItr", "hasNext", "()Z"⟩, ⟨"java/util/ImmutableCollections$ListItr", "next", "()Ljava/lang/Object;"⟩, ⟨"java/util/NoSuchElementException", "<init>", "()V"⟩, ⟨"java/util/AbstractQueue", "<init>", "()V"⟩, ⟨"java/util/AbstractQueue", "remove", "()Ljava/lang/Object;"⟩, ⟨"java/util/PriorityQueue", "toArray", "()[Ljava/lang/Object;"⟩, ⟨"java/util/PriorityQueue", "<init>", "(Ljava/util/Comparator;)V"⟩],
  [⟨"java/util/PriorityQueue", "<init>", "(ILjava/util/Comparator;)V"⟩, ⟨"java/util/PriorityQueue", "add", "(Ljava/lang/Object;)Z"⟩, ⟨"java/util/PriorityQueue", "offer", "(Ljava/lang/Object;)Z"⟩, ⟨"java/util/PriorityQueue", "grow", "(I)V"⟩, ⟨"java/util/PriorityQueue", "siftUp", "(ILjava/lang/Object;)V"⟩, ⟨"java/util/PriorityQueue", "siftUpUsingComparator", "(ILjava/lang/Object;[Ljava/lang/Object;Ljava/util/Comparator;)V"⟩, ⟨"java/util/PriorityQueue", "siftUpComparable", "(ILjava/lang/Object;[Ljava/lang/Object;)V"⟩, ⟨"java/util/PriorityQueue", "size", "()I"⟩, ⟨"java/util/PriorityQueue", "poll", "()Ljava/lang/Object;"⟩, ⟨"java/util/PriorityQueue", "siftDownComparable", "(ILjava/lang/Object;[Ljava/lang/Object;I)V"⟩, ⟨"java/util/PriorityQueue", "siftDownUsingComparator", "(ILjava/lang/Object;[Ljava/lang/Object;ILjava/util/Comparator;)V"⟩, ⟨"java/lang/IllegalStateException", "<init>", "()V"⟩, ⟨"java/lang/StringIndexOutOfBoundsException", "<init>", "(I)V"⟩, ⟨"java/lang/Object", "<init>", "()V"⟩, ⟨"java/lang/Object", "equals", "(Ljava/lang/Object;)Z"⟩, ⟨"java/lang/System$2", "getUTF16Char", "([BI)C"⟩]]
noncomputable def ynT (y : Nat) : MethodName := (ynTL.getD (y / 32) []).getD (y % 32) ⟨"", "", ""⟩
noncomputable def ybTL : List (List (ByteArray)) := [[cL_law, cX0_asker, cX0_kind, cX0_ballot, cX0_order, cX0_request, cX0_line, cX0_answer, cX0_points, cX0_firsts, cX0_beats, cX0_wins, cX0_voted, cX0_isDecisive, cX0_differences, cX0_distance, cX0_middle, cX0_meanWait, cX0_share, cX0_run, cX0_ask, cX0_cancel, cX0_cast, cX0_veto, cX0_payBack, cX0_setTally, cX0_setManner, cX0_undo, cX0_answeredIn, cX0_answersIn, cX0_bestVeto, cX0_bestTally],
  [cX0_bestBallot, cX0_silentIn, cX0_restoreState, cX1_init, cX1_feed, cX1_append, cX1_truncate, cX1_inRange, cX1_parse, cX1_errorCode, cX1_errorOffset, cX1_count, cX1_setup, cX1_find, cX1_progress, cX1_champion, cX1_votes, cX1_debts, cX1_richest, cX1_emptyIn, cX1_printOrder, cX1_outputByte, cX1_saveState, cX1_asker, cX1_checkAsker, cX1_checkIndex, cX1_waitingOf, cX1_kind, cX1_checkKind, cX1_placeInOrder, cX1_ballot, cX1_order],
  [cX1_request, cX1_checkArgument, cX1_checkElement, cX1_line, cX1_answer, cX1_points, cX1_firsts, cX1_beats, cX1_wins, cX1_voted, cX1_isDecisive, cX1_differences, cX1_placeIn, cX1_distance, cX1_turned, cX1_middle, cX1_lambda_middle_0, cX1_keepIfMore, cX1_tryAll, cX1_meanWait, cX1_share, cX1_run, cX1_checkTicks, cX1_remember, cX1_ask, cX1_checkState, cX1_cancel, cX1_cast, cX1_veto, cX1_payBack, cX1_setTally, cX1_setManner],
  [cX1_undo, cX1_answeredIn, cX1_answersIn, cX1_bestVeto, cX1_bestTally, cX1_bestBallot, cX1_lambda_bestBallot_1, cX1_codeOf, cX1_silentIn, cX1_restoreState, cX2_values, cX2_order, cX3_init, cX3_addClass, cX3_classes, cX3_addAsker, cX3_askers, cX4_init, cX4_lambda_new_0, cX4_lambda_new_1, cX4_lambda_new_2, cX4_lambda_new_3, cX4_count, cX4_counts, cX4_copy, cX4_take, cX4_openRequests, cX4_tick, cX4_vote, cX4_pass, cX4_fetch, cX4_isVetoed],
  [cX4_first, cX4_drop, cX4_placeOf, cX4_answer, cX4_find, cX4_lay, cX4_run, cX4_cast, cX4_canVeto, cX4_veto, cX5_init, cX5_clear, cX5_add, cX5_wins, cX5_beats, cX6_init, cX6_clears, cX6_takesDraft, cX6_copies, cX6_thrown, cX6_undo, cX6_is, cX6_saveState, cX6_restoreState, cX6_run, cX6_areTicks, cX6_isIn, cX6_starts, cX6_goesOn, cX6_answeredOf, cX6_ticks, cX6_ordersAnew],
  [cX6_tallies, cX6_doesAnyCount, cX6_counts, cX6_isBetter, cX6_firstsOf, cX6_onBallot, cX6_winsOf, cX6_doesBeat, cX6_leadOf, cX6_placeOf, cX6_pointsOf, cX6_passesOn, cX6_lesser, cX6_takesNext, cX6_has, cX6_inLine, cX6_isInLine, cX6_of, cX6_doesWait, cX6_aheadOf, cX6_isAhead, cX6_claimOf, cX6_worksOn, cX6_indexOf, cX6_answers, cX6_takesOut, cX6_done, cX6_ask, cX6_isAsker, cX6_isClass, cX6_may, cX6_comes],
  [cX6_cancel, cX6_cast, cX6_isBallot, cX6_casts, cX6_veto, cX6_canVeto, cX6_debtBehind, cX6_greater, cX6_vetoes, cX6_payBack, cX6_setTally, cX6_isTally, cX6_puts, cX6_setManner, cX6_count, cX6_waiting, cX6_asker, cX6_waitingOf, cX6_kind, cX6_waitingIn, cX6_placeInOrder, cX6_serialAt, cX6_ballot, cX6_order, cX6_request, cX6_line, cX6_progress, cX6_answer, cX6_points, cX6_firsts, cX6_beats, cX6_wins],
  [cX6_champion, cX6_voted, cX6_votes, cX6_differences, cX6_placeInOutcome, cX6_isDecisive, cX6_distance, cX6_pairsApart, cX6_middle, cX6_codes, cX6_sumApart, cX6_meanWait, cX6_share, cX6_debts, cX6_richest, cX6_worthOf, cX6_answeredIn, cX6_tries, cX6_laysBack, cX6_answersIn, cX6_wouldAnswer, cX6_bestVeto, cX6_vetoBrings, cX6_bestTally, cX6_bestBallot, cX6_silentIn, cX6_emptyIn, cX6_feed, cX6_truncate, cX6_parse, cX6_next, cX6_here],
  [cX6_isLetter, cX6_wordHere, cX6_fine, cX6_statement, cX6_isWord, cX6_readsClass, cX6_needs, cX6_goOn, cX6_fresh, cX6_isName, cX6_indexOf_2, cX6_readsAsker, cX6_number, cX6_readsAsk, cX6_known, cX6_readsOnce, cX6_readsTally, cX6_readsNumber, cX6_errorCode, cX6_errorOffset, cX6_find, cX6_printOrder, cX6_says, cX6_saysName, cX6_outputByte, cX7_init, cX7_advance, cX7_byteAt, cX7_parse, cX7_statement, cX7_readClass, cX7_require],
  [cX7_newName, cX7_name, cX7_accept, cX7_readAsker, cX7_number, cX7_readAsk, cX7_oldName, cX7_readTally, cX7_only, cX7_single, cX8_init, cX9_init, cX10_compare, cX10_compare_2, cX10_init, cX11_more, cX12_more, cX13_more, cJ0_compareTo, cJ0_compareTo_2, cJ0_getDeclaringClass, cJ0_equals, cJ0_ordinal, cJ1_init, cJ2_init, cJ3_init, cJ3_add, cJ3_add_2, cJ3_grow, cJ3_grow_2, cJ3_addAll, cJ3_toArray],
  [cJ3_size, cJ3_contains, cJ3_indexOf, cJ3_indexOfRange, cJ3_clear, cJ3_get, cJ3_elementData, cJ3_remove, cJ3_fastRemove, cJ3_iterator, cJ3_isEmpty, cJ4_init, cJ4_compareTo, cJ4_isLatin1, cJ4_append, cJ4_ensureCapacityInternal, cJ4_newCapacity, cJ4_inflate, cJ4_getValue, cJ4_length, cJ4_append_2, cJ4_append_3, cJ4_appendNull, cJ4_putStringAt, cJ4_inflateIfNeededFor, cJ4_setLength, cJ4_charAt, cJ5_init, cJ5_compareTo, cJ5_compareTo_2, cJ5_append, cJ5_toString],
  [cJ5_length, cJ5_append_2, cJ5_append_3, cJ5_setLength, cJ5_charAt, cJ6_compareTo, cJ6_compareTo_2, cJ6_coder, cJ6_checkOffset, ⟨#[]⟩, cJ6_checkIndex, cJ6_init, cJ6_init_2, ⟨#[]⟩, cJ6_length, cJ6_getBytes, cJ6_hashCode, cJ6_isLatin1, cJ6_equals, cJ6_charAt, ⟨#[]⟩, ⟨#[]⟩, ⟨#[]⟩, ⟨#[]⟩, ⟨#[]⟩, ⟨#[]⟩, ⟨#[]⟩, ⟨#[]⟩, ⟨#[]⟩, ⟨#[]⟩, ⟨#[]⟩, ⟨#[]⟩],
  [⟨#[]⟩, ⟨#[]⟩, ⟨#[]⟩, ⟨#[]⟩, ⟨#[]⟩, ⟨#[]⟩, ⟨#[]⟩, ⟨#[]⟩, ⟨#[]⟩, ⟨#[]⟩, ⟨#[]⟩, ⟨#[]⟩, ⟨#[]⟩, cJ8_init, cJ9_init, cJ9_size, cJ9_put, cJ9_put_2, cJ9_addEntryToEmptyMap, cJ9_compare, cJ9_addEntry, cJ9_fixAfterInsertion, cJ9_parentOf, cJ9_leftOf, cJ9_rightOf, cJ9_colorOf, cJ9_setColor, cJ9_rotateLeft, cJ9_rotateRight, cJ9_containsKey, cJ9_getEntry, cJ9_getEntryUsingComparator],
  [cJ9_get, cJ10_newLength, ⟨#[]⟩, cJ10_mismatch, ⟨#[]⟩, cJ10_vectorizedHashCode, ⟨#[]⟩, ⟨#[]⟩, ⟨#[]⟩, ⟨#[]⟩, ⟨#[]⟩, ⟨#[]⟩, ⟨#[]⟩, ⟨#[]⟩, cJ12_copyOf, cJ12_copyOf_2, cJ12_copyOf_3, cJ12_copyOfRange, cJ12_copyOfRangeByte, cJ12_checkLength, cJ12_copyOf_4, cJ12_fill, cJ12_rangeCheck, cJ13_init, cJ14_valueOf, cJ14_init, cJ14_compareTo, cJ14_compareTo_2, cJ14_compare, ⟨#[]⟩, ⟨#[]⟩, cJ14_stringSize],
  [cJ14_getChars, cJ14_equals, cJ14_intValue, cJ15_compareTo, cJ15_compareTo_2, cJ15_getChar, cJ15_compareToUTF16, cJ15_length, cJ15_compareToUTF16Values, cJ15_compareToUTF16_2, cJ15_canEncode, cJ15_inflate, cJ15_hashCode, cJ15_equals, cJ15_fillNull, cJ15_charAt, ⟨#[]⟩, ⟨#[]⟩, ⟨#[]⟩, ⟨#[]⟩, ⟨#[]⟩, ⟨#[]⟩, ⟨#[]⟩, ⟨#[]⟩, ⟨#[]⟩, ⟨#[]⟩, ⟨#[]⟩, ⟨#[]⟩, ⟨#[]⟩, ⟨#[]⟩, ⟨#[]⟩, cJ18_checkFromToIndex],
  [⟨#[]⟩, cJ18_checkIndex, cJ19_init, cJ20_requireNonNull, cJ20_equals, cJ20_checkIndex, cJ21_listFromArray, cJ22_of, cJ23_add, cJ23_addAll, cJ23_init, cJ23_clear, cJ24_init, cJ24_contains, ⟨#[]⟩, cJ24_remove, cJ24_iterator, ⟨#[]⟩, ⟨#[]⟩, cJ25_init, cJ25_init_2, ⟨#[]⟩, ⟨#[]⟩, ⟨#[]⟩, cJ26_toArray, cJ26_size, cJ26_init, cJ26_indexOf, cJ26_get, cJ26_isEmpty, cJ27_init, cJ27_initWords],
  [cJ27_wordIndex, cJ27_get, cJ27_checkInvariants, cJ27_set, cJ27_expandTo, cJ27_ensureCapacity, ⟨#[]⟩, ⟨#[]⟩, cJ28_init_3, ⟨#[]⟩, cJ29_init_2, ⟨#[]⟩, ⟨#[]⟩, ⟨#[]⟩, ⟨#[]⟩, ⟨#[]⟩, ⟨#[]⟩, ⟨#[]⟩, ⟨#[]⟩, ⟨#[]⟩, cJ34_init, cJ34_hasNext, cJ34_next, cJ34_checkForComodification, ⟨#[]⟩, ⟨#[]⟩, ⟨#[]⟩, ⟨#[]⟩, cJ37_init, cJ37_remove, cJ38_toArray, cJ38_init],
  [cJ38_init_2, cJ38_add, cJ38_offer, cJ38_grow, cJ38_siftUp, cJ38_siftUpUsingComparator, cJ38_siftUpComparable, cJ38_size, cJ38_poll, cJ38_siftDownComparable, cJ38_siftDownUsingComparator, ⟨#[]⟩, ⟨#[]⟩, ⟨#[]⟩, ⟨#[]⟩, ⟨#[]⟩]]
noncomputable def ybT (y : Nat) : ByteArray := (ybTL.getD (y / 32) []).getD (y % 32) ⟨#[]⟩
noncomputable def yrTL : List (List (Option FieldType)) := [[(Option.some Jvm.ClassFile.FieldType.boolean), (Option.some Jvm.ClassFile.FieldType.int), (Option.some Jvm.ClassFile.FieldType.int), (Option.some Jvm.ClassFile.FieldType.int), (Option.some Jvm.ClassFile.FieldType.int), (Option.some Jvm.ClassFile.FieldType.int), (Option.some Jvm.ClassFile.FieldType.int), (Option.some Jvm.ClassFile.FieldType.int), (Option.some Jvm.ClassFile.FieldType.int), (Option.some Jvm.ClassFile.FieldType.int), (Option.some Jvm.ClassFile.FieldType.int), (Option.some Jvm.ClassFile.FieldType.int), (Option.some Jvm.ClassFile.FieldType.int), (Option.some Jvm.ClassFile.FieldType.int), (Option.some Jvm.ClassFile.FieldType.int), (Option.some Jvm.ClassFile.FieldType.int), (Option.some Jvm.ClassFile.FieldType.int), (Option.some Jvm.ClassFile.FieldType.int), (Option.some Jvm.ClassFile.FieldType.int), (Option.some Jvm.ClassFile.FieldType.int), (Option.some Jvm.ClassFile.FieldType.int), (Option.some Jvm.ClassFile.FieldType.int), (Option.some Jvm.ClassFile.FieldType.int), (Option.some Jvm.ClassFile.FieldType.int), (Option.some Jvm.ClassFile.FieldType.int), (Option.some Jvm.ClassFile.FieldType.int), (Option.some Jvm.ClassFile.FieldType.int), (Option.some Jvm.ClassFile.FieldType.int), (Option.some Jvm.ClassFile.FieldType.int), (Option.some Jvm.ClassFile.FieldType.int), (Option.some Jvm.ClassFile.FieldType.int), (Option.some Jvm.ClassFile.FieldType.int)],
  [(Option.some Jvm.ClassFile.FieldType.int), (Option.some Jvm.ClassFile.FieldType.int), (Option.some Jvm.ClassFile.FieldType.int), none, (Option.some Jvm.ClassFile.FieldType.int), none, (Option.some Jvm.ClassFile.FieldType.boolean), (Option.some Jvm.ClassFile.FieldType.boolean), (Option.some Jvm.ClassFile.FieldType.int), (Option.some Jvm.ClassFile.FieldType.int), (Option.some Jvm.ClassFile.FieldType.int), (Option.some Jvm.ClassFile.FieldType.int), (Option.some (Jvm.ClassFile.FieldType.object "BallotBus$Setup")), (Option.some Jvm.ClassFile.FieldType.int), (Option.some Jvm.ClassFile.FieldType.int), (Option.some Jvm.ClassFile.FieldType.int), (Option.some Jvm.ClassFile.FieldType.int), (Option.some Jvm.ClassFile.FieldType.int), (Option.some Jvm.ClassFile.FieldType.int), (Option.some Jvm.ClassFile.FieldType.int), (Option.some Jvm.ClassFile.FieldType.int), (Option.some Jvm.ClassFile.FieldType.int), (Option.some Jvm.ClassFile.FieldType.int), (Option.some Jvm.ClassFile.FieldType.int), none, none, (Option.some Jvm.ClassFile.FieldType.int), (Option.some Jvm.ClassFile.FieldType.int), none, (Option.some Jvm.ClassFile.FieldType.int), (Option.some Jvm.ClassFile.FieldType.int), (Option.some Jvm.ClassFile.FieldType.int)],
  [(Option.some Jvm.ClassFile.FieldType.int), none, none, (Option.some Jvm.ClassFile.FieldType.int), (Option.some Jvm.ClassFile.FieldType.int), (Option.some Jvm.ClassFile.FieldType.int), (Option.some Jvm.ClassFile.FieldType.int), (Option.some Jvm.ClassFile.FieldType.boolean), (Option.some Jvm.ClassFile.FieldType.int), (Option.some Jvm.ClassFile.FieldType.int), (Option.some Jvm.ClassFile.FieldType.boolean), (Option.some Jvm.ClassFile.FieldType.int), (Option.some Jvm.ClassFile.FieldType.int), (Option.some Jvm.ClassFile.FieldType.int), (Option.some Jvm.ClassFile.FieldType.int), (Option.some Jvm.ClassFile.FieldType.int), none, none, none, (Option.some Jvm.ClassFile.FieldType.double), (Option.some Jvm.ClassFile.FieldType.float), (Option.some Jvm.ClassFile.FieldType.int), none, none, (Option.some Jvm.ClassFile.FieldType.int), none, (Option.some Jvm.ClassFile.FieldType.int), (Option.some Jvm.ClassFile.FieldType.int), (Option.some Jvm.ClassFile.FieldType.int), (Option.some Jvm.ClassFile.FieldType.int), (Option.some Jvm.ClassFile.FieldType.int), (Option.some Jvm.ClassFile.FieldType.int)],
  [(Option.some Jvm.ClassFile.FieldType.int), (Option.some Jvm.ClassFile.FieldType.int), (Option.some Jvm.ClassFile.FieldType.int), (Option.some Jvm.ClassFile.FieldType.int), (Option.some Jvm.ClassFile.FieldType.int), (Option.some Jvm.ClassFile.FieldType.int), none, (Option.some Jvm.ClassFile.FieldType.int), (Option.some Jvm.ClassFile.FieldType.int), (Option.some Jvm.ClassFile.FieldType.int), (Option.some (Jvm.ClassFile.FieldType.array (Jvm.ClassFile.FieldType.object "BallotBus$Tally"))), none, none, none, (Option.some Jvm.ClassFile.FieldType.int), none, (Option.some Jvm.ClassFile.FieldType.int), none, (Option.some Jvm.ClassFile.FieldType.int), (Option.some Jvm.ClassFile.FieldType.int), (Option.some Jvm.ClassFile.FieldType.int), (Option.some Jvm.ClassFile.FieldType.int), (Option.some (Jvm.ClassFile.FieldType.object "BallotBus$Sheet")), (Option.some Jvm.ClassFile.FieldType.boolean), (Option.some (Jvm.ClassFile.FieldType.object "BallotBus$Bus")), none, (Option.some Jvm.ClassFile.FieldType.int), none, none, none, none, (Option.some Jvm.ClassFile.FieldType.boolean)],
  [(Option.some (Jvm.ClassFile.FieldType.object "BallotBus$Request")), (Option.some (Jvm.ClassFile.FieldType.object "BallotBus$Request")), (Option.some Jvm.ClassFile.FieldType.int), none, (Option.some (Jvm.ClassFile.FieldType.object "BallotBus$Request")), none, (Option.some Jvm.ClassFile.FieldType.int), (Option.some Jvm.ClassFile.FieldType.boolean), (Option.some Jvm.ClassFile.FieldType.boolean), none, none, none, none, (Option.some Jvm.ClassFile.FieldType.int), (Option.some Jvm.ClassFile.FieldType.boolean), none, none, none, none, (Option.some Jvm.ClassFile.FieldType.int), (Option.some Jvm.ClassFile.FieldType.int), (Option.some Jvm.ClassFile.FieldType.boolean), (Option.some Jvm.ClassFile.FieldType.int), (Option.some Jvm.ClassFile.FieldType.int), (Option.some Jvm.ClassFile.FieldType.int), (Option.some Jvm.ClassFile.FieldType.boolean), (Option.some Jvm.ClassFile.FieldType.boolean), none, (Option.some Jvm.ClassFile.FieldType.int), (Option.some Jvm.ClassFile.FieldType.int), none, none],
  [none, (Option.some Jvm.ClassFile.FieldType.boolean), (Option.some Jvm.ClassFile.FieldType.boolean), (Option.some Jvm.ClassFile.FieldType.boolean), (Option.some Jvm.ClassFile.FieldType.int), (Option.some Jvm.ClassFile.FieldType.int), (Option.some Jvm.ClassFile.FieldType.int), (Option.some Jvm.ClassFile.FieldType.boolean), (Option.some Jvm.ClassFile.FieldType.int), (Option.some Jvm.ClassFile.FieldType.int), (Option.some Jvm.ClassFile.FieldType.int), none, (Option.some Jvm.ClassFile.FieldType.int), none, (Option.some Jvm.ClassFile.FieldType.boolean), (Option.some Jvm.ClassFile.FieldType.int), (Option.some Jvm.ClassFile.FieldType.boolean), (Option.some Jvm.ClassFile.FieldType.int), (Option.some Jvm.ClassFile.FieldType.boolean), (Option.some Jvm.ClassFile.FieldType.int), (Option.some Jvm.ClassFile.FieldType.boolean), (Option.some Jvm.ClassFile.FieldType.int), none, (Option.some Jvm.ClassFile.FieldType.int), none, none, (Option.some Jvm.ClassFile.FieldType.int), (Option.some Jvm.ClassFile.FieldType.int), (Option.some Jvm.ClassFile.FieldType.boolean), (Option.some Jvm.ClassFile.FieldType.boolean), (Option.some Jvm.ClassFile.FieldType.boolean), (Option.some Jvm.ClassFile.FieldType.int)],
  [(Option.some Jvm.ClassFile.FieldType.int), (Option.some Jvm.ClassFile.FieldType.int), (Option.some Jvm.ClassFile.FieldType.boolean), (Option.some Jvm.ClassFile.FieldType.int), (Option.some Jvm.ClassFile.FieldType.int), (Option.some Jvm.ClassFile.FieldType.boolean), (Option.some Jvm.ClassFile.FieldType.int), (Option.some Jvm.ClassFile.FieldType.int), (Option.some Jvm.ClassFile.FieldType.int), (Option.some Jvm.ClassFile.FieldType.int), (Option.some Jvm.ClassFile.FieldType.int), (Option.some Jvm.ClassFile.FieldType.boolean), (Option.some Jvm.ClassFile.FieldType.int), (Option.some Jvm.ClassFile.FieldType.int), (Option.some Jvm.ClassFile.FieldType.int), (Option.some Jvm.ClassFile.FieldType.int), (Option.some Jvm.ClassFile.FieldType.int), (Option.some Jvm.ClassFile.FieldType.int), (Option.some Jvm.ClassFile.FieldType.int), (Option.some Jvm.ClassFile.FieldType.int), (Option.some Jvm.ClassFile.FieldType.int), (Option.some Jvm.ClassFile.FieldType.int), (Option.some Jvm.ClassFile.FieldType.int), (Option.some Jvm.ClassFile.FieldType.int), (Option.some Jvm.ClassFile.FieldType.int), (Option.some Jvm.ClassFile.FieldType.int), (Option.some Jvm.ClassFile.FieldType.int), (Option.some Jvm.ClassFile.FieldType.int), (Option.some Jvm.ClassFile.FieldType.int), (Option.some Jvm.ClassFile.FieldType.int), (Option.some Jvm.ClassFile.FieldType.boolean), (Option.some Jvm.ClassFile.FieldType.int)],
  [(Option.some Jvm.ClassFile.FieldType.int), (Option.some Jvm.ClassFile.FieldType.int), (Option.some Jvm.ClassFile.FieldType.int), (Option.some Jvm.ClassFile.FieldType.int), (Option.some Jvm.ClassFile.FieldType.int), (Option.some Jvm.ClassFile.FieldType.boolean), (Option.some Jvm.ClassFile.FieldType.int), (Option.some Jvm.ClassFile.FieldType.int), (Option.some Jvm.ClassFile.FieldType.int), (Option.some Jvm.ClassFile.FieldType.int), (Option.some Jvm.ClassFile.FieldType.int), (Option.some Jvm.ClassFile.FieldType.double), (Option.some Jvm.ClassFile.FieldType.float), (Option.some Jvm.ClassFile.FieldType.int), (Option.some Jvm.ClassFile.FieldType.int), (Option.some Jvm.ClassFile.FieldType.int), (Option.some Jvm.ClassFile.FieldType.int), none, (Option.some Jvm.ClassFile.FieldType.int), (Option.some Jvm.ClassFile.FieldType.int), (Option.some Jvm.ClassFile.FieldType.int), (Option.some Jvm.ClassFile.FieldType.int), (Option.some Jvm.ClassFile.FieldType.int), (Option.some Jvm.ClassFile.FieldType.int), (Option.some Jvm.ClassFile.FieldType.int), (Option.some Jvm.ClassFile.FieldType.int), (Option.some Jvm.ClassFile.FieldType.int), (Option.some Jvm.ClassFile.FieldType.int), (Option.some Jvm.ClassFile.FieldType.boolean), (Option.some Jvm.ClassFile.FieldType.int), none, (Option.some Jvm.ClassFile.FieldType.int)],
  [(Option.some Jvm.ClassFile.FieldType.boolean), (Option.some Jvm.ClassFile.FieldType.int), (Option.some Jvm.ClassFile.FieldType.boolean), none, (Option.some Jvm.ClassFile.FieldType.boolean), none, none, none, (Option.some Jvm.ClassFile.FieldType.long), (Option.some Jvm.ClassFile.FieldType.boolean), (Option.some Jvm.ClassFile.FieldType.int), none, (Option.some Jvm.ClassFile.FieldType.int), none, (Option.some Jvm.ClassFile.FieldType.int), none, none, none, (Option.some Jvm.ClassFile.FieldType.int), (Option.some Jvm.ClassFile.FieldType.int), (Option.some Jvm.ClassFile.FieldType.int), (Option.some Jvm.ClassFile.FieldType.int), none, none, (Option.some Jvm.ClassFile.FieldType.int), none, none, (Option.some Jvm.ClassFile.FieldType.int), (Option.some (Jvm.ClassFile.FieldType.object "BallotBus$Setup")), none, none, none],
  [(Option.some (Jvm.ClassFile.FieldType.object "java/lang/String")), none, (Option.some Jvm.ClassFile.FieldType.boolean), none, (Option.some Jvm.ClassFile.FieldType.int), none, (Option.some Jvm.ClassFile.FieldType.int), none, none, (Option.some Jvm.ClassFile.FieldType.int), none, none, (Option.some Jvm.ClassFile.FieldType.int), (Option.some Jvm.ClassFile.FieldType.int), none, (Option.some Jvm.ClassFile.FieldType.int), (Option.some Jvm.ClassFile.FieldType.int), (Option.some Jvm.ClassFile.FieldType.int), (Option.some Jvm.ClassFile.FieldType.int), (Option.some Jvm.ClassFile.FieldType.int), (Option.some (Jvm.ClassFile.FieldType.object "java/lang/Class")), (Option.some Jvm.ClassFile.FieldType.boolean), (Option.some Jvm.ClassFile.FieldType.int), none, none, none, (Option.some Jvm.ClassFile.FieldType.boolean), none, (Option.some (Jvm.ClassFile.FieldType.array (Jvm.ClassFile.FieldType.object "java/lang/Object"))), (Option.some (Jvm.ClassFile.FieldType.array (Jvm.ClassFile.FieldType.object "java/lang/Object"))), (Option.some Jvm.ClassFile.FieldType.boolean), (Option.some (Jvm.ClassFile.FieldType.array (Jvm.ClassFile.FieldType.object "java/lang/Object")))],
  [(Option.some Jvm.ClassFile.FieldType.int), (Option.some Jvm.ClassFile.FieldType.boolean), (Option.some Jvm.ClassFile.FieldType.int), (Option.some Jvm.ClassFile.FieldType.int), none, (Option.some (Jvm.ClassFile.FieldType.object "java/lang/Object")), (Option.some (Jvm.ClassFile.FieldType.object "java/lang/Object")), (Option.some (Jvm.ClassFile.FieldType.object "java/lang/Object")), none, (Option.some (Jvm.ClassFile.FieldType.object "java/util/Iterator")), (Option.some Jvm.ClassFile.FieldType.boolean), none, (Option.some Jvm.ClassFile.FieldType.int), (Option.some Jvm.ClassFile.FieldType.boolean), (Option.some (Jvm.ClassFile.FieldType.object "java/lang/AbstractStringBuilder")), none, (Option.some Jvm.ClassFile.FieldType.int), none, (Option.some (Jvm.ClassFile.FieldType.array Jvm.ClassFile.FieldType.byte)), (Option.some Jvm.ClassFile.FieldType.int), (Option.some (Jvm.ClassFile.FieldType.object "java/lang/AbstractStringBuilder")), (Option.some (Jvm.ClassFile.FieldType.object "java/lang/AbstractStringBuilder")), (Option.some (Jvm.ClassFile.FieldType.object "java/lang/AbstractStringBuilder")), none, none, none, (Option.some Jvm.ClassFile.FieldType.char), none, (Option.some Jvm.ClassFile.FieldType.int), (Option.some Jvm.ClassFile.FieldType.int), (Option.some (Jvm.ClassFile.FieldType.object "java/lang/StringBuilder")), (Option.some (Jvm.ClassFile.FieldType.object "java/lang/String"))],
  [(Option.some Jvm.ClassFile.FieldType.int), (Option.some (Jvm.ClassFile.FieldType.object "java/lang/StringBuilder")), (Option.some (Jvm.ClassFile.FieldType.object "java/lang/StringBuilder")), none, (Option.some Jvm.ClassFile.FieldType.char), (Option.some Jvm.ClassFile.FieldType.int), (Option.some Jvm.ClassFile.FieldType.int), (Option.some Jvm.ClassFile.FieldType.byte), none, (Option.some Jvm.ClassFile.FieldType.int), none, none, none, none, (Option.some Jvm.ClassFile.FieldType.int), none, (Option.some Jvm.ClassFile.FieldType.int), (Option.some Jvm.ClassFile.FieldType.boolean), (Option.some Jvm.ClassFile.FieldType.boolean), (Option.some Jvm.ClassFile.FieldType.char), (Option.some (Jvm.ClassFile.FieldType.array Jvm.ClassFile.FieldType.byte)), (Option.some Jvm.ClassFile.FieldType.int), (Option.some Jvm.ClassFile.FieldType.int), (Option.some Jvm.ClassFile.FieldType.int), (Option.some Jvm.ClassFile.FieldType.int), (Option.some Jvm.ClassFile.FieldType.char), (Option.some Jvm.ClassFile.FieldType.int), (Option.some Jvm.ClassFile.FieldType.int), none, (Option.some Jvm.ClassFile.FieldType.int), none, none],
  [none, none, none, (Option.some Jvm.ClassFile.FieldType.int), none, (Option.some Jvm.ClassFile.FieldType.int), (Option.some Jvm.ClassFile.FieldType.int), (Option.some (Jvm.ClassFile.FieldType.array Jvm.ClassFile.FieldType.byte)), (Option.some Jvm.ClassFile.FieldType.int), (Option.some Jvm.ClassFile.FieldType.byte), (Option.some Jvm.ClassFile.FieldType.int), none, (Option.some Jvm.ClassFile.FieldType.char), none, none, (Option.some Jvm.ClassFile.FieldType.int), (Option.some (Jvm.ClassFile.FieldType.object "java/lang/Object")), (Option.some (Jvm.ClassFile.FieldType.object "java/lang/Object")), none, (Option.some Jvm.ClassFile.FieldType.int), none, none, (Option.some (Jvm.ClassFile.FieldType.object "java/util/TreeMap$Entry")), (Option.some (Jvm.ClassFile.FieldType.object "java/util/TreeMap$Entry")), (Option.some (Jvm.ClassFile.FieldType.object "java/util/TreeMap$Entry")), (Option.some Jvm.ClassFile.FieldType.boolean), none, none, none, (Option.some Jvm.ClassFile.FieldType.boolean), (Option.some (Jvm.ClassFile.FieldType.object "java/util/TreeMap$Entry")), (Option.some (Jvm.ClassFile.FieldType.object "java/util/TreeMap$Entry"))],
  [(Option.some (Jvm.ClassFile.FieldType.object "java/lang/Object")), (Option.some Jvm.ClassFile.FieldType.int), (Option.some Jvm.ClassFile.FieldType.int), (Option.some Jvm.ClassFile.FieldType.int), (Option.some Jvm.ClassFile.FieldType.int), (Option.some Jvm.ClassFile.FieldType.int), (Option.some Jvm.ClassFile.FieldType.int), (Option.some Jvm.ClassFile.FieldType.int), (Option.some Jvm.ClassFile.FieldType.int), (Option.some Jvm.ClassFile.FieldType.int), (Option.some Jvm.ClassFile.FieldType.int), (Option.some Jvm.ClassFile.FieldType.int), (Option.some Jvm.ClassFile.FieldType.int), (Option.some Jvm.ClassFile.FieldType.int), (Option.some (Jvm.ClassFile.FieldType.array (Jvm.ClassFile.FieldType.object "java/lang/Object"))), (Option.some (Jvm.ClassFile.FieldType.array (Jvm.ClassFile.FieldType.object "java/lang/Object"))), (Option.some (Jvm.ClassFile.FieldType.array Jvm.ClassFile.FieldType.byte)), (Option.some (Jvm.ClassFile.FieldType.array Jvm.ClassFile.FieldType.byte)), (Option.some (Jvm.ClassFile.FieldType.array Jvm.ClassFile.FieldType.byte)), none, (Option.some (Jvm.ClassFile.FieldType.array Jvm.ClassFile.FieldType.long)), none, none, none, (Option.some (Jvm.ClassFile.FieldType.object "java/lang/Integer")), none, (Option.some Jvm.ClassFile.FieldType.int), (Option.some Jvm.ClassFile.FieldType.int), (Option.some Jvm.ClassFile.FieldType.int), (Option.some Jvm.ClassFile.FieldType.int), (Option.some Jvm.ClassFile.FieldType.int), (Option.some Jvm.ClassFile.FieldType.int)],
  [(Option.some Jvm.ClassFile.FieldType.int), (Option.some Jvm.ClassFile.FieldType.boolean), (Option.some Jvm.ClassFile.FieldType.int), (Option.some Jvm.ClassFile.FieldType.int), (Option.some Jvm.ClassFile.FieldType.int), (Option.some Jvm.ClassFile.FieldType.char), (Option.some Jvm.ClassFile.FieldType.int), (Option.some Jvm.ClassFile.FieldType.int), (Option.some Jvm.ClassFile.FieldType.int), (Option.some Jvm.ClassFile.FieldType.int), (Option.some Jvm.ClassFile.FieldType.boolean), none, (Option.some Jvm.ClassFile.FieldType.int), (Option.some Jvm.ClassFile.FieldType.boolean), none, (Option.some Jvm.ClassFile.FieldType.char), (Option.some Jvm.ClassFile.FieldType.long), (Option.some Jvm.ClassFile.FieldType.long), (Option.some Jvm.ClassFile.FieldType.long), (Option.some Jvm.ClassFile.FieldType.int), (Option.some Jvm.ClassFile.FieldType.long), (Option.some Jvm.ClassFile.FieldType.long), (Option.some Jvm.ClassFile.FieldType.long), (Option.some Jvm.ClassFile.FieldType.long), (Option.some Jvm.ClassFile.FieldType.int), (Option.some Jvm.ClassFile.FieldType.int), (Option.some Jvm.ClassFile.FieldType.int), (Option.some Jvm.ClassFile.FieldType.int), (Option.some Jvm.ClassFile.FieldType.int), (Option.some Jvm.ClassFile.FieldType.int), (Option.some Jvm.ClassFile.FieldType.int), (Option.some Jvm.ClassFile.FieldType.int)],
  [(Option.some Jvm.ClassFile.FieldType.int), (Option.some Jvm.ClassFile.FieldType.int), none, (Option.some (Jvm.ClassFile.FieldType.object "java/lang/Object")), (Option.some Jvm.ClassFile.FieldType.boolean), (Option.some Jvm.ClassFile.FieldType.int), (Option.some (Jvm.ClassFile.FieldType.object "java/util/List")), (Option.some (Jvm.ClassFile.FieldType.object "java/util/List")), (Option.some Jvm.ClassFile.FieldType.boolean), (Option.some Jvm.ClassFile.FieldType.boolean), none, none, none, (Option.some Jvm.ClassFile.FieldType.boolean), (Option.some (Jvm.ClassFile.FieldType.object "java/lang/IndexOutOfBoundsException")), (Option.some (Jvm.ClassFile.FieldType.object "java/lang/Object")), (Option.some (Jvm.ClassFile.FieldType.object "java/util/Iterator")), (Option.some (Jvm.ClassFile.FieldType.array (Jvm.ClassFile.FieldType.object "java/lang/Object"))), (Option.some Jvm.ClassFile.FieldType.int), none, none, (Option.some Jvm.ClassFile.FieldType.int), (Option.some (Jvm.ClassFile.FieldType.object "java/lang/Object")), (Option.some Jvm.ClassFile.FieldType.boolean), (Option.some (Jvm.ClassFile.FieldType.array (Jvm.ClassFile.FieldType.object "java/lang/Object"))), (Option.some Jvm.ClassFile.FieldType.int), none, (Option.some Jvm.ClassFile.FieldType.int), (Option.some (Jvm.ClassFile.FieldType.object "java/lang/Object")), (Option.some Jvm.ClassFile.FieldType.boolean), none, none],
  [(Option.some Jvm.ClassFile.FieldType.int), (Option.some Jvm.ClassFile.FieldType.boolean), none, none, none, none, none, none, none, none, none, none, none, none, none, none, none, none, none, none, none, (Option.some Jvm.ClassFile.FieldType.boolean), (Option.some (Jvm.ClassFile.FieldType.object "java/lang/Object")), none, none, (Option.some Jvm.ClassFile.FieldType.boolean), (Option.some (Jvm.ClassFile.FieldType.object "java/lang/Object")), none, none, (Option.some (Jvm.ClassFile.FieldType.object "java/lang/Object")), (Option.some (Jvm.ClassFile.FieldType.array (Jvm.ClassFile.FieldType.object "java/lang/Object"))), none],
  [none, (Option.some Jvm.ClassFile.FieldType.boolean), (Option.some Jvm.ClassFile.FieldType.boolean), none, none, none, none, (Option.some Jvm.ClassFile.FieldType.int), (Option.some (Jvm.ClassFile.FieldType.object "java/lang/Object")), none, none, none, none, none, (Option.some Jvm.ClassFile.FieldType.boolean), (Option.some Jvm.ClassFile.FieldType.char)]]
noncomputable def yrT (y : Nat) : Option FieldType := (yrTL.getD (y / 32) []).getD (y % 32) none
def yhT (y : Nat) : List (Nat × Nat × Nat × Nat) := (yhr y).map fun q => (q.1, q.2.1, q.2.2.1, q.2.2.2.1)
/-! handlers by rows -/
theorem cov_iff {a b h ct pc : Nat} : covers ⟨a, b, h, ct⟩ pc = (Nat.ble a pc && Nat.blt pc b) := by
  rw [Bool.eq_iff_iff]
  simp [covers, Nat.ble_eq, Nat.blt_eq]
def HR (own : String) (q : Nat × Nat × Nat × Nat × List Nat) : Prop := (q.2.2.2.1 = 0 ∧ ∀ t, tex t = true → q.2.2.2.2.contains t = true) ∨ (q.2.2.2.1 ≠ 0 ∧ ∃ nm, Cond.classLink own q.2.2.2.1 nm ∈ lw_all ∧ ∀ t, tex t = true → (q.2.2.2.2.contains t = true ∧ (cNm t, nm) ∈ tkC) ∨ (q.2.2.2.2.contains t = false ∧ (cNm t, nm) ∈ tkN))
def HRs (own : String) : List (Nat × Nat × Nat × Nat × List Nat) → Prop
  | [] => True
  | q :: r => HR own q ∧ HRs own r
theorem TB_rows {s : State} {args : Array Value} {own : String} {pc : Nat} (hts : ∀ w ∈ lw_all, w.before args s = true) (htk : TK s) : ∀ (rows : List (Nat × Nat × Nat × Nat × List Nat)), HRs own rows → TB s args own (tableOf (rows.map fun q => (q.1, q.2.1, q.2.2.1, q.2.2.2.1))) pc (hdOf rows pc) := by
  intro rows
  induction rows with
  | nil => intro _; exact TB_nil fun t => rfl
  | cons q r ih =>
    intro hh t ht
    obtain ⟨a, b, h, ct, ts⟩ := q
    obtain ⟨h1, h2⟩ := hh
    have ih := ih h2 t ht
    have hpass : ∀ z : ExceptionTableEntry, z = ⟨a, b, h, ct⟩ → (Nat.ble a pc && Nat.blt pc b && ts.contains t) ≠ true → covers z pc = false ∨ (z.catchType ≠ 0 ∧ ∃ nm : String, (Cond.classLink own z.catchType nm).before args s = true ∧ va_Nc (cNm t) nm s) := by
      rintro z rfl hn
      cases hc : (Nat.ble a pc && Nat.blt pc b) with
      | false => exact Or.inl (by rw [cov_iff]; exact hc)
      | true =>
        rw [hc, Bool.true_and] at hn
        refine Or.inr ?_
        rcases h1 with ⟨e0, e1⟩ | ⟨e0, nm, e1, e2⟩
        · exact absurd (e1 t ht) hn
        · rcases e2 t ht with ⟨e3, -⟩ | ⟨-, e4⟩
          · exact absurd e3 hn
          · exact ⟨e0, nm, hts _ e1, htk.2.1 _ e4⟩
    by_cases hn : (Nat.ble a pc && Nat.blt pc b && ts.contains t) = true
    · have hd : hdOf ((a, b, h, ct, ts) :: r) pc t = some h := by rw [hdOf, if_pos hn]
      simp only [Bool.and_eq_true] at hn
      have hcov : covers ⟨a, b, h, ct⟩ pc = true := by rw [cov_iff, hn.1.1, hn.1.2]; rfl
      rcases h1 with ⟨e0, e1⟩ | ⟨e0, nm, e1, e2⟩
      · exact Or.inr (Or.inl ⟨h, [], _, _, hd, rfl, fun z hz => (by cases hz), hcov, e0, rfl⟩)
      · rcases e2 t ht with ⟨-, e4⟩ | ⟨e3, -⟩
        · exact Or.inr (Or.inr ⟨h, [], _, _, nm, hd, rfl, fun z hz => (by cases hz), hcov, e0, rfl, hts _ e1, va_Nw.use (A := args) rfl (htk.1 _ e4)⟩)
        · rw [hn.2] at e3; cases e3
    · have hd : hdOf ((a, b, h, ct, ts) :: r) pc t = hdOf r pc t := by rw [hdOf, if_neg hn]
      rcases ih with ⟨g1, g2⟩ | ⟨h', pre, x, suf, g1, g2, g3, g4⟩ | ⟨h', pre, x, suf, nm, g1, g2, g3, g4⟩
      · refine Or.inl ⟨hd.trans g1, fun z hz => ?_⟩
        rcases List.mem_cons.mp hz with e | e
        · exact hpass z e hn
        · exact g2 z e
      · refine Or.inr (Or.inl ⟨h', _ :: pre, x, suf, hd.trans g1, congrArg (List.cons _) g2, fun z hz => ?_, g4⟩)
        rcases List.mem_cons.mp hz with e | e
        · exact hpass z e hn
        · exact g3 z e
      · refine Or.inr (Or.inr ⟨h', _ :: pre, x, suf, nm, hd.trans g1, congrArg (List.cons _) g2, fun z hz => ?_, g4⟩)
        rcases List.mem_cons.mp hz with e | e
        · exact hpass z e hn
        · exact g3 z e
theorem tbH {y : Nat} {rows : List (Nat × Nat × Nat × Nat × List Nat)} (h : yhr y = rows) (hr : HRs (ynT y).cls rows) : ∀ pc, TBX PP ynT yhT y pc := by
  subst h
  intro pc s args hts htk
  exact TB_rows hts htk _ hr
theorem tbN {y : Nat} (h : yhr y = []) : ∀ pc, TBX PP ynT yhT y pc := tbH h trivial
theorem tex_all {Q : Nat → Prop} (h10 : Q 10) (h23 : Q 23) (h24 : Q 24) (h25 : Q 25) (h26 : Q 26) : ∀ t, tex t = true → Q t := by
  intro t ht
  have h1 : t = 10 ∨ (23 ≤ t ∧ t ≤ 26) := by simpa [tex] using ht
  have h2 : t = 10 ∨ t = 23 ∨ t = 24 ∨ t = 25 ∨ t = 26 := by omega
  rcases h2 with rfl | rfl | rfl | rfl | rfl <;> assumption
theorem okA_0 : ∀ t u, okA t u = true → u ≠ 0 := by
  intro t u h z
  subst z
  simp [okA] at h

theorem tg1 : TG 1 := ⟨rfl, ⟨13, q186⟩, q130, fun k hk => in_X1 _ (u_in_lay (C := RX1) (T := TX1) hk), tyX1_ok, (by decide +kernel : ∀ k, k < 13 → okTy (tyX1 k) = true)⟩
theorem tg5 : TG 5 := ⟨rfl, ⟨13, q270⟩, q140, fun k hk => in_X3 _ (u_in_lay (C := RX3) (T := TX3) hk), tyX3_ok, (by decide +kernel : ∀ k, k < 13 → okTy (tyX3 k) = true)⟩
theorem tg6 : TG 6 := ⟨rfl, ⟨26, q862⟩, q157, fun k hk => in_X4 _ (u_in_lay (C := RX4) (T := TX4) hk), tyX4_ok, (by decide +kernel : ∀ k, k < 26 → okTy (tyX4 k) = true)⟩
theorem tg7 : TG 7 := ⟨rfl, ⟨5, q882⟩, q158, fun k hk => in_X5 _ (u_in_lay (C := RX5) (T := TX5) hk), tyX5_ok, (by decide +kernel : ∀ k, k < 5 → okTy (tyX5 k) = true)⟩
theorem tg8 : TG 8 := ⟨rfl, ⟨42, q2833⟩, q160, fun k hk => in_X6 _ (u_in_lay (C := RX6) (T := TX6) hk), tyX6_ok, (by decide +kernel : ∀ k, k < 42 → okTy (tyX6 k) = true)⟩
theorem tg9 : TG 9 := ⟨rfl, ⟨9, q1149⟩, q161, fun k hk => in_X7 _ (u_in_lay (C := RX7) (T := TX7) hk), tyX7_ok, (by decide +kernel : ∀ k, k < 9 → okTy (tyX7 k) = true)⟩
theorem tg10 : TG 10 := ⟨rfl, ⟨8, q1630⟩, q172, fun k hk => in_X8 _ (u_in_lay (C := RX8) (T := TX8) hk), tyX8_ok, (by decide +kernel : ∀ k, k < 8 → okTy (tyX8 k) = true)⟩
theorem tg11 : TG 11 := ⟨rfl, ⟨5, q1782⟩, q173, fun k hk => in_X9 _ (u_in_lay (C := RX9) (T := TX9) hk), tyX9_ok, (by decide +kernel : ∀ k, k < 5 → okTy (tyX9 k) = true)⟩
theorem tg12 : TG 12 := ⟨rfl, ⟨1, q2441⟩, q181, fun k hk => in_X10 _ (u_in_lay (C := RX10) (T := TX10) hk), tyX10_ok, (by decide +kernel : ∀ k, k < 1 → okTy (tyX10 k) = true)⟩
theorem tg13 : TG 13 := ⟨rfl, ⟨3, q207⟩, q135, fun k hk => in_J3 _ (u_in_lay (C := RJ3) (T := TJ3) hk), tyJ3_ok, (by decide +kernel : ∀ k, k < 3 → okTy (tyJ3 k) = true)⟩
theorem tg14 : TG 14 := ⟨rfl, ⟨4, q236⟩, q137, fun k hk => in_J5 _ (u_in_lay (C := RJ5) (T := TJ5) hk), tyJ5_ok, (by decide +kernel : ∀ k, k < 4 → okTy (tyJ5 k) = true)⟩
theorem tg15 : TG 15 := ⟨rfl, ⟨4, q1324⟩, q138, fun k hk => in_J6 _ (u_in_lay (C := RJ6) (T := TJ6) hk), tyJ6_ok, (by decide +kernel : ∀ k, k < 4 → okTy (tyJ6 k) = true)⟩
theorem tg16 : TG 16 := ⟨rfl, ⟨9, q276⟩, q142, fun k hk => in_J9 _ (u_in_lay (C := RJ9) (T := TJ9) hk), tyJ9_ok, (by decide +kernel : ∀ k, k < 9 → okTy (tyJ9 k) = true)⟩
theorem tg17 : TG 17 := ⟨rfl, ⟨1, q490⟩, q148, fun k hk => in_J14 _ (u_in_lay (C := RJ14) (T := TJ14) hk), tyJ14_ok, (by decide +kernel : ∀ k, k < 1 → okTy (tyJ14 k) = true)⟩
theorem tg18 : TG 18 := ⟨rfl, ⟨6, q791⟩, q155, fun k hk => in_J19 _ (u_in_lay (C := RJ19) (T := TJ19) hk), tyJ19_ok, (by decide +kernel : ∀ k, k < 6 → okTy (tyJ19 k) = true)⟩
theorem tg19 : TG 19 := ⟨rfl, ⟨2, q1207⟩, q166, fun k hk => in_J26 _ (u_in_lay (C := RJ26) (T := TJ26) hk), tyJ26_ok, (by decide +kernel : ∀ k, k < 2 → okTy (tyJ26 k) = true)⟩
theorem tg20 : TG 20 := ⟨rfl, ⟨3, q1222⟩, q167, fun k hk => in_J27 _ (u_in_lay (C := RJ27) (T := TJ27) hk), tyJ27_ok, (by decide +kernel : ∀ k, k < 3 → okTy (tyJ27 k) = true)⟩
theorem tg21 : TG 21 := ⟨rfl, ⟨4, q2277⟩, q176, fun k hk => in_J34 _ (u_in_lay (C := RJ34) (T := TJ34) hk), tyJ34_ok, (by decide +kernel : ∀ k, k < 4 → okTy (tyJ34 k) = true)⟩
theorem tg22 : TG 22 := ⟨rfl, ⟨4, q2439⟩, q180, fun k hk => in_J38 _ (u_in_lay (C := RJ38) (T := TJ38) hk), tyJ38_ok, (by decide +kernel : ∀ k, k < 4 → okTy (tyJ38 k) = true)⟩
theorem ap_okA : ∀ s, TK s → AP s okA := by
  intro s h t u ht ho
  have hc : ∀ q ∈ tkC, va_Nw (.castable q.1 q.2) s := h.1
  have hh : (t = 110 ∧ 1 ≤ u ∧ u ≤ 26) ∨ (t = 111 ∧ 27 ≤ u ∧ u ≤ 30) ∨ (t = 112 ∧ 2 ≤ u ∧ u ≤ 4) ∨ (t = 113 ∧ u = 15) := by
    simp only [okA, Bool.or_eq_true, Bool.and_eq_true, beq_iff_eq, decide_eq_true_eq] at ho
    omega
  have hn : tar u = true → 100 ≤ u := fun z => by
    simp only [tar, Bool.and_eq_true, Bool.or_eq_true, decide_eq_true_eq] at z
    omega
  have hl : tcl u = true → 1 ≤ u ∧ u ≤ 26 := fun z => by
    simp only [tcl, Bool.and_eq_true, decide_eq_true_eq] at z
    exact z
  have hm : u ≤ 26 → tlm u = false := fun z => by
    simp only [tlm, Bool.and_eq_false_iff, decide_eq_false_iff_not]
    omega
  rcases hh with ⟨rfl, h1, h2⟩ | ⟨rfl, h1, h2⟩ | ⟨rfl, h1, h2⟩ | ⟨rfl, rfl⟩
  · refine ⟨_, rfl, Or.inr ⟨hm (by omega), cNm u, fun _ => rfl, fun z => by have := hn z; omega, Or.inr (hc (cNm u, "java/lang/Object") ?_)⟩⟩
    have h5 : u = 1 ∨ u = 2 ∨ u = 3 ∨ u = 4 ∨ u = 5 ∨ u = 6 ∨ u = 7 ∨ u = 8 ∨ u = 9 ∨ u = 10 ∨ u = 11 ∨ u = 12 ∨ u = 13 ∨ u = 14 ∨ u = 15 ∨ u = 16 ∨ u = 17 ∨ u = 18 ∨ u = 19 ∨ u = 20 ∨ u = 21 ∨ u = 22 ∨ u = 23 ∨ u = 24 ∨ u = 25 ∨ u = 26 := by omega
    rcases h5 with rfl | rfl | rfl | rfl | rfl | rfl | rfl | rfl | rfl | rfl | rfl | rfl | rfl | rfl | rfl | rfl | rfl | rfl | rfl | rfl | rfl | rfl | rfl | rfl | rfl | rfl
    · exact List.mem_of_getElem? (i := 0) rfl
    · exact List.mem_of_getElem? (i := 15) rfl
    · exact List.mem_of_getElem? (i := 19) rfl
    · exact List.mem_of_getElem? (i := 23) rfl
    · exact List.mem_of_getElem? (i := 9) rfl
    · exact List.mem_of_getElem? (i := 1) rfl
    · exact List.mem_of_getElem? (i := 10) rfl
    · exact List.mem_of_getElem? (i := 24) rfl
    · exact List.mem_of_getElem? (i := 7) rfl
    · exact List.mem_of_getElem? (i := 6) rfl
    · exact List.mem_of_getElem? (i := 8) rfl
    · exact List.mem_of_getElem? (i := 2) rfl
    · exact List.mem_of_getElem? (i := 56) rfl
    · exact List.mem_of_getElem? (i := 50) rfl
    · exact List.mem_of_getElem? (i := 48) rfl
    · exact List.mem_of_getElem? (i := 74) rfl
    · exact List.mem_of_getElem? (i := 46) rfl
    · exact List.mem_of_getElem? (i := 75) rfl
    · exact List.mem_of_getElem? (i := 67) rfl
    · exact List.mem_of_getElem? (i := 61) rfl
    · exact List.mem_of_getElem? (i := 59) rfl
    · exact List.mem_of_getElem? (i := 72) rfl
    · exact List.mem_of_getElem? (i := 44) rfl
    · exact List.mem_of_getElem? (i := 40) rfl
    · exact List.mem_of_getElem? (i := 42) rfl
    · exact List.mem_of_getElem? (i := 70) rfl
  · refine ⟨_, rfl, Or.inl ⟨?_, ?_⟩⟩
    · simp only [tlm, Bool.and_eq_true, decide_eq_true_eq]
      omega
    · unfold lmIf
      rw [if_pos h2]
  · refine ⟨_, rfl, Or.inr ⟨hm (by omega), cNm u, fun _ => rfl, fun z => by have := hn z; omega, Or.inr (hc (cNm u, "BallotBus$Tally") ?_)⟩⟩
    have h5 : u = 2 ∨ u = 3 ∨ u = 4 := by omega
    rcases h5 with rfl | rfl | rfl
    · exact List.mem_of_getElem? (i := 12) rfl
    · exact List.mem_of_getElem? (i := 16) rfl
    · exact List.mem_of_getElem? (i := 20) rfl
  · exact ⟨_, rfl, Or.inr ⟨rfl, "java/lang/String", fun _ => rfl, fun z => by have := hn z; omega, Or.inl rfl⟩⟩
theorem hb0 : ybT 0 = cL_law := rfl
theorem ho0 : (ynT 0).cls = "BallotBusLaw" := rfl
theorem hn0 : (ynT 0).name = "law" := rfl
theorem tb0 : ∀ pc, TBX PP ynT yhT 0 pc := tbN rfl
theorem hb1 : ybT 1 = cX0_asker := rfl
theorem ho1 : (ynT 1).cls = "BallotBusLaw" := rfl
theorem hn1 : (ynT 1).name = "asker" := rfl
theorem tb1 : ∀ pc, TBX PP ynT yhT 1 pc := tbH rfl ⟨Or.inr ⟨by decide, "java/lang/IndexOutOfBoundsException", q2238, tex_all (Or.inr ⟨rfl, (List.mem_of_getElem? (i := 35) rfl)⟩) (Or.inl ⟨rfl, (List.mem_of_getElem? (i := 43) rfl)⟩) (Or.inr ⟨rfl, (List.mem_of_getElem? (i := 147) rfl)⟩) (Or.inr ⟨rfl, (List.mem_of_getElem? (i := 156) rfl)⟩) (Or.inr ⟨rfl, (List.mem_of_getElem? (i := 243) rfl)⟩)⟩, trivial⟩
theorem hb2 : ybT 2 = cX0_kind := rfl
theorem ho2 : (ynT 2).cls = "BallotBusLaw" := rfl
theorem hn2 : (ynT 2).name = "kind" := rfl
theorem tb2 : ∀ pc, TBX PP ynT yhT 2 pc := tbH rfl ⟨Or.inr ⟨by decide, "java/lang/IndexOutOfBoundsException", q2238, tex_all (Or.inr ⟨rfl, (List.mem_of_getElem? (i := 35) rfl)⟩) (Or.inl ⟨rfl, (List.mem_of_getElem? (i := 43) rfl)⟩) (Or.inr ⟨rfl, (List.mem_of_getElem? (i := 147) rfl)⟩) (Or.inr ⟨rfl, (List.mem_of_getElem? (i := 156) rfl)⟩) (Or.inr ⟨rfl, (List.mem_of_getElem? (i := 243) rfl)⟩)⟩, trivial⟩
theorem hb3 : ybT 3 = cX0_ballot := rfl
theorem ho3 : (ynT 3).cls = "BallotBusLaw" := rfl
theorem hn3 : (ynT 3).name = "ballot" := rfl
theorem tb3 : ∀ pc, TBX PP ynT yhT 3 pc := tbH rfl ⟨Or.inr ⟨by decide, "java/lang/IndexOutOfBoundsException", q2238, tex_all (Or.inr ⟨rfl, (List.mem_of_getElem? (i := 35) rfl)⟩) (Or.inl ⟨rfl, (List.mem_of_getElem? (i := 43) rfl)⟩) (Or.inr ⟨rfl, (List.mem_of_getElem? (i := 147) rfl)⟩) (Or.inr ⟨rfl, (List.mem_of_getElem? (i := 156) rfl)⟩) (Or.inr ⟨rfl, (List.mem_of_getElem? (i := 243) rfl)⟩)⟩, trivial⟩
theorem hb4 : ybT 4 = cX0_order := rfl
theorem ho4 : (ynT 4).cls = "BallotBusLaw" := rfl
theorem hn4 : (ynT 4).name = "order" := rfl
theorem tb4 : ∀ pc, TBX PP ynT yhT 4 pc := tbH rfl ⟨Or.inr ⟨by decide, "java/lang/IndexOutOfBoundsException", q2238, tex_all (Or.inr ⟨rfl, (List.mem_of_getElem? (i := 35) rfl)⟩) (Or.inl ⟨rfl, (List.mem_of_getElem? (i := 43) rfl)⟩) (Or.inr ⟨rfl, (List.mem_of_getElem? (i := 147) rfl)⟩) (Or.inr ⟨rfl, (List.mem_of_getElem? (i := 156) rfl)⟩) (Or.inr ⟨rfl, (List.mem_of_getElem? (i := 243) rfl)⟩)⟩, trivial⟩
theorem hb5 : ybT 5 = cX0_request := rfl
theorem ho5 : (ynT 5).cls = "BallotBusLaw" := rfl
theorem hn5 : (ynT 5).name = "request" := rfl
theorem tb5 : ∀ pc, TBX PP ynT yhT 5 pc := tbH rfl ⟨Or.inr ⟨by decide, "java/lang/IllegalArgumentException", q2408, tex_all (Or.inr ⟨rfl, (List.mem_of_getElem? (i := 33) rfl)⟩) (Or.inr ⟨rfl, (List.mem_of_getElem? (i := 164) rfl)⟩) (Or.inl ⟨rfl, (List.mem_of_getElem? (i := 39) rfl)⟩) (Or.inr ⟨rfl, (List.mem_of_getElem? (i := 155) rfl)⟩) (Or.inr ⟨rfl, (List.mem_of_getElem? (i := 241) rfl)⟩)⟩, ⟨Or.inr ⟨by decide, "java/util/NoSuchElementException", q2409, tex_all (Or.inr ⟨rfl, (List.mem_of_getElem? (i := 38) rfl)⟩) (Or.inr ⟨rfl, (List.mem_of_getElem? (i := 168) rfl)⟩) (Or.inr ⟨rfl, (List.mem_of_getElem? (i := 150) rfl)⟩) (Or.inr ⟨rfl, (List.mem_of_getElem? (i := 159) rfl)⟩) (Or.inl ⟨rfl, (List.mem_of_getElem? (i := 71) rfl)⟩)⟩, trivial⟩⟩
theorem hb6 : ybT 6 = cX0_line := rfl
theorem ho6 : (ynT 6).cls = "BallotBusLaw" := rfl
theorem hn6 : (ynT 6).name = "line" := rfl
theorem tb6 : ∀ pc, TBX PP ynT yhT 6 pc := tbH rfl ⟨Or.inr ⟨by decide, "java/lang/IndexOutOfBoundsException", q2238, tex_all (Or.inr ⟨rfl, (List.mem_of_getElem? (i := 35) rfl)⟩) (Or.inl ⟨rfl, (List.mem_of_getElem? (i := 43) rfl)⟩) (Or.inr ⟨rfl, (List.mem_of_getElem? (i := 147) rfl)⟩) (Or.inr ⟨rfl, (List.mem_of_getElem? (i := 156) rfl)⟩) (Or.inr ⟨rfl, (List.mem_of_getElem? (i := 243) rfl)⟩)⟩, ⟨Or.inr ⟨by decide, "java/util/NoSuchElementException", q2409, tex_all (Or.inr ⟨rfl, (List.mem_of_getElem? (i := 38) rfl)⟩) (Or.inr ⟨rfl, (List.mem_of_getElem? (i := 168) rfl)⟩) (Or.inr ⟨rfl, (List.mem_of_getElem? (i := 150) rfl)⟩) (Or.inr ⟨rfl, (List.mem_of_getElem? (i := 159) rfl)⟩) (Or.inl ⟨rfl, (List.mem_of_getElem? (i := 71) rfl)⟩)⟩, trivial⟩⟩
theorem hb7 : ybT 7 = cX0_answer := rfl
theorem ho7 : (ynT 7).cls = "BallotBusLaw" := rfl
theorem hn7 : (ynT 7).name = "answer" := rfl
theorem tb7 : ∀ pc, TBX PP ynT yhT 7 pc := tbH rfl ⟨Or.inr ⟨by decide, "java/lang/IllegalArgumentException", q2408, tex_all (Or.inr ⟨rfl, (List.mem_of_getElem? (i := 33) rfl)⟩) (Or.inr ⟨rfl, (List.mem_of_getElem? (i := 164) rfl)⟩) (Or.inl ⟨rfl, (List.mem_of_getElem? (i := 39) rfl)⟩) (Or.inr ⟨rfl, (List.mem_of_getElem? (i := 155) rfl)⟩) (Or.inr ⟨rfl, (List.mem_of_getElem? (i := 241) rfl)⟩)⟩, ⟨Or.inr ⟨by decide, "java/util/NoSuchElementException", q2409, tex_all (Or.inr ⟨rfl, (List.mem_of_getElem? (i := 38) rfl)⟩) (Or.inr ⟨rfl, (List.mem_of_getElem? (i := 168) rfl)⟩) (Or.inr ⟨rfl, (List.mem_of_getElem? (i := 150) rfl)⟩) (Or.inr ⟨rfl, (List.mem_of_getElem? (i := 159) rfl)⟩) (Or.inl ⟨rfl, (List.mem_of_getElem? (i := 71) rfl)⟩)⟩, trivial⟩⟩
theorem hb8 : ybT 8 = cX0_points := rfl
theorem ho8 : (ynT 8).cls = "BallotBusLaw" := rfl
theorem hn8 : (ynT 8).name = "points" := rfl
theorem tb8 : ∀ pc, TBX PP ynT yhT 8 pc := tbH rfl ⟨Or.inr ⟨by decide, "java/lang/IndexOutOfBoundsException", q2238, tex_all (Or.inr ⟨rfl, (List.mem_of_getElem? (i := 35) rfl)⟩) (Or.inl ⟨rfl, (List.mem_of_getElem? (i := 43) rfl)⟩) (Or.inr ⟨rfl, (List.mem_of_getElem? (i := 147) rfl)⟩) (Or.inr ⟨rfl, (List.mem_of_getElem? (i := 156) rfl)⟩) (Or.inr ⟨rfl, (List.mem_of_getElem? (i := 243) rfl)⟩)⟩, trivial⟩
theorem hb9 : ybT 9 = cX0_firsts := rfl
theorem ho9 : (ynT 9).cls = "BallotBusLaw" := rfl
theorem hn9 : (ynT 9).name = "firsts" := rfl
theorem tb9 : ∀ pc, TBX PP ynT yhT 9 pc := tbH rfl ⟨Or.inr ⟨by decide, "java/lang/IndexOutOfBoundsException", q2238, tex_all (Or.inr ⟨rfl, (List.mem_of_getElem? (i := 35) rfl)⟩) (Or.inl ⟨rfl, (List.mem_of_getElem? (i := 43) rfl)⟩) (Or.inr ⟨rfl, (List.mem_of_getElem? (i := 147) rfl)⟩) (Or.inr ⟨rfl, (List.mem_of_getElem? (i := 156) rfl)⟩) (Or.inr ⟨rfl, (List.mem_of_getElem? (i := 243) rfl)⟩)⟩, trivial⟩
theorem hb10 : ybT 10 = cX0_beats := rfl
theorem ho10 : (ynT 10).cls = "BallotBusLaw" := rfl
theorem hn10 : (ynT 10).name = "beats" := rfl
theorem tb10 : ∀ pc, TBX PP ynT yhT 10 pc := tbH rfl ⟨Or.inr ⟨by decide, "java/lang/IndexOutOfBoundsException", q2238, tex_all (Or.inr ⟨rfl, (List.mem_of_getElem? (i := 35) rfl)⟩) (Or.inl ⟨rfl, (List.mem_of_getElem? (i := 43) rfl)⟩) (Or.inr ⟨rfl, (List.mem_of_getElem? (i := 147) rfl)⟩) (Or.inr ⟨rfl, (List.mem_of_getElem? (i := 156) rfl)⟩) (Or.inr ⟨rfl, (List.mem_of_getElem? (i := 243) rfl)⟩)⟩, trivial⟩
theorem hb11 : ybT 11 = cX0_wins := rfl
theorem ho11 : (ynT 11).cls = "BallotBusLaw" := rfl
theorem hn11 : (ynT 11).name = "wins" := rfl
theorem tb11 : ∀ pc, TBX PP ynT yhT 11 pc := tbH rfl ⟨Or.inr ⟨by decide, "java/lang/IndexOutOfBoundsException", q2238, tex_all (Or.inr ⟨rfl, (List.mem_of_getElem? (i := 35) rfl)⟩) (Or.inl ⟨rfl, (List.mem_of_getElem? (i := 43) rfl)⟩) (Or.inr ⟨rfl, (List.mem_of_getElem? (i := 147) rfl)⟩) (Or.inr ⟨rfl, (List.mem_of_getElem? (i := 156) rfl)⟩) (Or.inr ⟨rfl, (List.mem_of_getElem? (i := 243) rfl)⟩)⟩, trivial⟩
theorem hb12 : ybT 12 = cX0_voted := rfl
theorem ho12 : (ynT 12).cls = "BallotBusLaw" := rfl
theorem hn12 : (ynT 12).name = "voted" := rfl
theorem tb12 : ∀ pc, TBX PP ynT yhT 12 pc := tbH rfl ⟨Or.inr ⟨by decide, "java/lang/IndexOutOfBoundsException", q2238, tex_all (Or.inr ⟨rfl, (List.mem_of_getElem? (i := 35) rfl)⟩) (Or.inl ⟨rfl, (List.mem_of_getElem? (i := 43) rfl)⟩) (Or.inr ⟨rfl, (List.mem_of_getElem? (i := 147) rfl)⟩) (Or.inr ⟨rfl, (List.mem_of_getElem? (i := 156) rfl)⟩) (Or.inr ⟨rfl, (List.mem_of_getElem? (i := 243) rfl)⟩)⟩, ⟨Or.inr ⟨by decide, "java/lang/IllegalArgumentException", q2408, tex_all (Or.inr ⟨rfl, (List.mem_of_getElem? (i := 33) rfl)⟩) (Or.inr ⟨rfl, (List.mem_of_getElem? (i := 164) rfl)⟩) (Or.inl ⟨rfl, (List.mem_of_getElem? (i := 39) rfl)⟩) (Or.inr ⟨rfl, (List.mem_of_getElem? (i := 155) rfl)⟩) (Or.inr ⟨rfl, (List.mem_of_getElem? (i := 241) rfl)⟩)⟩, trivial⟩⟩
theorem hb13 : ybT 13 = cX0_isDecisive := rfl
theorem ho13 : (ynT 13).cls = "BallotBusLaw" := rfl
theorem hn13 : (ynT 13).name = "isDecisive" := rfl
theorem tb13 : ∀ pc, TBX PP ynT yhT 13 pc := tbH rfl ⟨Or.inr ⟨by decide, "java/lang/IndexOutOfBoundsException", q2238, tex_all (Or.inr ⟨rfl, (List.mem_of_getElem? (i := 35) rfl)⟩) (Or.inl ⟨rfl, (List.mem_of_getElem? (i := 43) rfl)⟩) (Or.inr ⟨rfl, (List.mem_of_getElem? (i := 147) rfl)⟩) (Or.inr ⟨rfl, (List.mem_of_getElem? (i := 156) rfl)⟩) (Or.inr ⟨rfl, (List.mem_of_getElem? (i := 243) rfl)⟩)⟩, trivial⟩
theorem hb14 : ybT 14 = cX0_differences := rfl
theorem ho14 : (ynT 14).cls = "BallotBusLaw" := rfl
theorem hn14 : (ynT 14).name = "differences" := rfl
theorem tb14 : ∀ pc, TBX PP ynT yhT 14 pc := tbH rfl ⟨Or.inr ⟨by decide, "java/lang/IllegalArgumentException", q2408, tex_all (Or.inr ⟨rfl, (List.mem_of_getElem? (i := 33) rfl)⟩) (Or.inr ⟨rfl, (List.mem_of_getElem? (i := 164) rfl)⟩) (Or.inl ⟨rfl, (List.mem_of_getElem? (i := 39) rfl)⟩) (Or.inr ⟨rfl, (List.mem_of_getElem? (i := 155) rfl)⟩) (Or.inr ⟨rfl, (List.mem_of_getElem? (i := 241) rfl)⟩)⟩, trivial⟩
theorem hb15 : ybT 15 = cX0_distance := rfl
theorem ho15 : (ynT 15).cls = "BallotBusLaw" := rfl
theorem hn15 : (ynT 15).name = "distance" := rfl
theorem tb15 : ∀ pc, TBX PP ynT yhT 15 pc := tbH rfl ⟨Or.inr ⟨by decide, "java/lang/IndexOutOfBoundsException", q2238, tex_all (Or.inr ⟨rfl, (List.mem_of_getElem? (i := 35) rfl)⟩) (Or.inl ⟨rfl, (List.mem_of_getElem? (i := 43) rfl)⟩) (Or.inr ⟨rfl, (List.mem_of_getElem? (i := 147) rfl)⟩) (Or.inr ⟨rfl, (List.mem_of_getElem? (i := 156) rfl)⟩) (Or.inr ⟨rfl, (List.mem_of_getElem? (i := 243) rfl)⟩)⟩, trivial⟩
theorem hb16 : ybT 16 = cX0_middle := rfl
theorem ho16 : (ynT 16).cls = "BallotBusLaw" := rfl
theorem hn16 : (ynT 16).name = "middle" := rfl
theorem tb16 : ∀ pc, TBX PP ynT yhT 16 pc := tbH rfl ⟨Or.inr ⟨by decide, "java/lang/IndexOutOfBoundsException", q2238, tex_all (Or.inr ⟨rfl, (List.mem_of_getElem? (i := 35) rfl)⟩) (Or.inl ⟨rfl, (List.mem_of_getElem? (i := 43) rfl)⟩) (Or.inr ⟨rfl, (List.mem_of_getElem? (i := 147) rfl)⟩) (Or.inr ⟨rfl, (List.mem_of_getElem? (i := 156) rfl)⟩) (Or.inr ⟨rfl, (List.mem_of_getElem? (i := 243) rfl)⟩)⟩, trivial⟩
theorem hb17 : ybT 17 = cX0_meanWait := rfl
theorem ho17 : (ynT 17).cls = "BallotBusLaw" := rfl
theorem hn17 : (ynT 17).name = "meanWait" := rfl
theorem tb17 : ∀ pc, TBX PP ynT yhT 17 pc := tbH rfl ⟨Or.inr ⟨by decide, "java/lang/IndexOutOfBoundsException", q2238, tex_all (Or.inr ⟨rfl, (List.mem_of_getElem? (i := 35) rfl)⟩) (Or.inl ⟨rfl, (List.mem_of_getElem? (i := 43) rfl)⟩) (Or.inr ⟨rfl, (List.mem_of_getElem? (i := 147) rfl)⟩) (Or.inr ⟨rfl, (List.mem_of_getElem? (i := 156) rfl)⟩) (Or.inr ⟨rfl, (List.mem_of_getElem? (i := 243) rfl)⟩)⟩, trivial⟩
theorem hb18 : ybT 18 = cX0_share := rfl
theorem ho18 : (ynT 18).cls = "BallotBusLaw" := rfl
theorem hn18 : (ynT 18).name = "share" := rfl
theorem tb18 : ∀ pc, TBX PP ynT yhT 18 pc := tbH rfl ⟨Or.inr ⟨by decide, "java/lang/IndexOutOfBoundsException", q2238, tex_all (Or.inr ⟨rfl, (List.mem_of_getElem? (i := 35) rfl)⟩) (Or.inl ⟨rfl, (List.mem_of_getElem? (i := 43) rfl)⟩) (Or.inr ⟨rfl, (List.mem_of_getElem? (i := 147) rfl)⟩) (Or.inr ⟨rfl, (List.mem_of_getElem? (i := 156) rfl)⟩) (Or.inr ⟨rfl, (List.mem_of_getElem? (i := 243) rfl)⟩)⟩, trivial⟩
theorem hb19 : ybT 19 = cX0_run := rfl
theorem ho19 : (ynT 19).cls = "BallotBusLaw" := rfl
theorem hn19 : (ynT 19).name = "run" := rfl
theorem tb19 : ∀ pc, TBX PP ynT yhT 19 pc := tbH rfl ⟨Or.inr ⟨by decide, "java/lang/IllegalArgumentException", q2408, tex_all (Or.inr ⟨rfl, (List.mem_of_getElem? (i := 33) rfl)⟩) (Or.inr ⟨rfl, (List.mem_of_getElem? (i := 164) rfl)⟩) (Or.inl ⟨rfl, (List.mem_of_getElem? (i := 39) rfl)⟩) (Or.inr ⟨rfl, (List.mem_of_getElem? (i := 155) rfl)⟩) (Or.inr ⟨rfl, (List.mem_of_getElem? (i := 241) rfl)⟩)⟩, trivial⟩
theorem hb20 : ybT 20 = cX0_ask := rfl
theorem ho20 : (ynT 20).cls = "BallotBusLaw" := rfl
theorem hn20 : (ynT 20).name = "ask" := rfl
theorem tb20 : ∀ pc, TBX PP ynT yhT 20 pc := tbH rfl ⟨Or.inr ⟨by decide, "java/lang/IndexOutOfBoundsException", q2238, tex_all (Or.inr ⟨rfl, (List.mem_of_getElem? (i := 35) rfl)⟩) (Or.inl ⟨rfl, (List.mem_of_getElem? (i := 43) rfl)⟩) (Or.inr ⟨rfl, (List.mem_of_getElem? (i := 147) rfl)⟩) (Or.inr ⟨rfl, (List.mem_of_getElem? (i := 156) rfl)⟩) (Or.inr ⟨rfl, (List.mem_of_getElem? (i := 243) rfl)⟩)⟩, ⟨Or.inr ⟨by decide, "java/lang/IllegalArgumentException", q2408, tex_all (Or.inr ⟨rfl, (List.mem_of_getElem? (i := 33) rfl)⟩) (Or.inr ⟨rfl, (List.mem_of_getElem? (i := 164) rfl)⟩) (Or.inl ⟨rfl, (List.mem_of_getElem? (i := 39) rfl)⟩) (Or.inr ⟨rfl, (List.mem_of_getElem? (i := 155) rfl)⟩) (Or.inr ⟨rfl, (List.mem_of_getElem? (i := 241) rfl)⟩)⟩, ⟨Or.inr ⟨by decide, "java/lang/IllegalStateException", q2667, tex_all (Or.inr ⟨rfl, (List.mem_of_getElem? (i := 34) rfl)⟩) (Or.inr ⟨rfl, (List.mem_of_getElem? (i := 165) rfl)⟩) (Or.inr ⟨rfl, (List.mem_of_getElem? (i := 146) rfl)⟩) (Or.inl ⟨rfl, (List.mem_of_getElem? (i := 41) rfl)⟩) (Or.inr ⟨rfl, (List.mem_of_getElem? (i := 242) rfl)⟩)⟩, trivial⟩⟩⟩
theorem hb21 : ybT 21 = cX0_cancel := rfl
theorem ho21 : (ynT 21).cls = "BallotBusLaw" := rfl
theorem hn21 : (ynT 21).name = "cancel" := rfl
theorem tb21 : ∀ pc, TBX PP ynT yhT 21 pc := tbH rfl ⟨Or.inr ⟨by decide, "java/lang/IllegalStateException", q2667, tex_all (Or.inr ⟨rfl, (List.mem_of_getElem? (i := 34) rfl)⟩) (Or.inr ⟨rfl, (List.mem_of_getElem? (i := 165) rfl)⟩) (Or.inr ⟨rfl, (List.mem_of_getElem? (i := 146) rfl)⟩) (Or.inl ⟨rfl, (List.mem_of_getElem? (i := 41) rfl)⟩) (Or.inr ⟨rfl, (List.mem_of_getElem? (i := 242) rfl)⟩)⟩, ⟨Or.inr ⟨by decide, "java/util/NoSuchElementException", q2409, tex_all (Or.inr ⟨rfl, (List.mem_of_getElem? (i := 38) rfl)⟩) (Or.inr ⟨rfl, (List.mem_of_getElem? (i := 168) rfl)⟩) (Or.inr ⟨rfl, (List.mem_of_getElem? (i := 150) rfl)⟩) (Or.inr ⟨rfl, (List.mem_of_getElem? (i := 159) rfl)⟩) (Or.inl ⟨rfl, (List.mem_of_getElem? (i := 71) rfl)⟩)⟩, trivial⟩⟩
theorem hb22 : ybT 22 = cX0_cast := rfl
theorem ho22 : (ynT 22).cls = "BallotBusLaw" := rfl
theorem hn22 : (ynT 22).name = "cast" := rfl
theorem tb22 : ∀ pc, TBX PP ynT yhT 22 pc := tbH rfl ⟨Or.inr ⟨by decide, "java/lang/IllegalArgumentException", q2408, tex_all (Or.inr ⟨rfl, (List.mem_of_getElem? (i := 33) rfl)⟩) (Or.inr ⟨rfl, (List.mem_of_getElem? (i := 164) rfl)⟩) (Or.inl ⟨rfl, (List.mem_of_getElem? (i := 39) rfl)⟩) (Or.inr ⟨rfl, (List.mem_of_getElem? (i := 155) rfl)⟩) (Or.inr ⟨rfl, (List.mem_of_getElem? (i := 241) rfl)⟩)⟩, trivial⟩
theorem hb23 : ybT 23 = cX0_veto := rfl
theorem ho23 : (ynT 23).cls = "BallotBusLaw" := rfl
theorem hn23 : (ynT 23).name = "veto" := rfl
theorem tb23 : ∀ pc, TBX PP ynT yhT 23 pc := tbH rfl ⟨Or.inr ⟨by decide, "java/lang/IndexOutOfBoundsException", q2238, tex_all (Or.inr ⟨rfl, (List.mem_of_getElem? (i := 35) rfl)⟩) (Or.inl ⟨rfl, (List.mem_of_getElem? (i := 43) rfl)⟩) (Or.inr ⟨rfl, (List.mem_of_getElem? (i := 147) rfl)⟩) (Or.inr ⟨rfl, (List.mem_of_getElem? (i := 156) rfl)⟩) (Or.inr ⟨rfl, (List.mem_of_getElem? (i := 243) rfl)⟩)⟩, ⟨Or.inr ⟨by decide, "java/lang/IllegalStateException", q2667, tex_all (Or.inr ⟨rfl, (List.mem_of_getElem? (i := 34) rfl)⟩) (Or.inr ⟨rfl, (List.mem_of_getElem? (i := 165) rfl)⟩) (Or.inr ⟨rfl, (List.mem_of_getElem? (i := 146) rfl)⟩) (Or.inl ⟨rfl, (List.mem_of_getElem? (i := 41) rfl)⟩) (Or.inr ⟨rfl, (List.mem_of_getElem? (i := 242) rfl)⟩)⟩, trivial⟩⟩
theorem hb24 : ybT 24 = cX0_payBack := rfl
theorem ho24 : (ynT 24).cls = "BallotBusLaw" := rfl
theorem hn24 : (ynT 24).name = "payBack" := rfl
theorem tb24 : ∀ pc, TBX PP ynT yhT 24 pc := tbH rfl ⟨Or.inr ⟨by decide, "java/lang/IndexOutOfBoundsException", q2238, tex_all (Or.inr ⟨rfl, (List.mem_of_getElem? (i := 35) rfl)⟩) (Or.inl ⟨rfl, (List.mem_of_getElem? (i := 43) rfl)⟩) (Or.inr ⟨rfl, (List.mem_of_getElem? (i := 147) rfl)⟩) (Or.inr ⟨rfl, (List.mem_of_getElem? (i := 156) rfl)⟩) (Or.inr ⟨rfl, (List.mem_of_getElem? (i := 243) rfl)⟩)⟩, trivial⟩
theorem hb25 : ybT 25 = cX0_setTally := rfl
theorem ho25 : (ynT 25).cls = "BallotBusLaw" := rfl
theorem hn25 : (ynT 25).name = "setTally" := rfl
theorem tb25 : ∀ pc, TBX PP ynT yhT 25 pc := tbH rfl ⟨Or.inr ⟨by decide, "java/lang/IllegalArgumentException", q2408, tex_all (Or.inr ⟨rfl, (List.mem_of_getElem? (i := 33) rfl)⟩) (Or.inr ⟨rfl, (List.mem_of_getElem? (i := 164) rfl)⟩) (Or.inl ⟨rfl, (List.mem_of_getElem? (i := 39) rfl)⟩) (Or.inr ⟨rfl, (List.mem_of_getElem? (i := 155) rfl)⟩) (Or.inr ⟨rfl, (List.mem_of_getElem? (i := 241) rfl)⟩)⟩, trivial⟩
theorem hb26 : ybT 26 = cX0_setManner := rfl
theorem ho26 : (ynT 26).cls = "BallotBusLaw" := rfl
theorem hn26 : (ynT 26).name = "setManner" := rfl
theorem tb26 : ∀ pc, TBX PP ynT yhT 26 pc := tbH rfl ⟨Or.inr ⟨by decide, "java/lang/IndexOutOfBoundsException", q2238, tex_all (Or.inr ⟨rfl, (List.mem_of_getElem? (i := 35) rfl)⟩) (Or.inl ⟨rfl, (List.mem_of_getElem? (i := 43) rfl)⟩) (Or.inr ⟨rfl, (List.mem_of_getElem? (i := 147) rfl)⟩) (Or.inr ⟨rfl, (List.mem_of_getElem? (i := 156) rfl)⟩) (Or.inr ⟨rfl, (List.mem_of_getElem? (i := 243) rfl)⟩)⟩, ⟨Or.inr ⟨by decide, "java/lang/IllegalArgumentException", q2408, tex_all (Or.inr ⟨rfl, (List.mem_of_getElem? (i := 33) rfl)⟩) (Or.inr ⟨rfl, (List.mem_of_getElem? (i := 164) rfl)⟩) (Or.inl ⟨rfl, (List.mem_of_getElem? (i := 39) rfl)⟩) (Or.inr ⟨rfl, (List.mem_of_getElem? (i := 155) rfl)⟩) (Or.inr ⟨rfl, (List.mem_of_getElem? (i := 241) rfl)⟩)⟩, trivial⟩⟩
theorem hb27 : ybT 27 = cX0_undo := rfl
theorem ho27 : (ynT 27).cls = "BallotBusLaw" := rfl
theorem hn27 : (ynT 27).name = "undo" := rfl
theorem tb27 : ∀ pc, TBX PP ynT yhT 27 pc := tbH rfl ⟨Or.inr ⟨by decide, "java/lang/IllegalStateException", q2667, tex_all (Or.inr ⟨rfl, (List.mem_of_getElem? (i := 34) rfl)⟩) (Or.inr ⟨rfl, (List.mem_of_getElem? (i := 165) rfl)⟩) (Or.inr ⟨rfl, (List.mem_of_getElem? (i := 146) rfl)⟩) (Or.inl ⟨rfl, (List.mem_of_getElem? (i := 41) rfl)⟩) (Or.inr ⟨rfl, (List.mem_of_getElem? (i := 242) rfl)⟩)⟩, trivial⟩
theorem hb28 : ybT 28 = cX0_answeredIn := rfl
theorem ho28 : (ynT 28).cls = "BallotBusLaw" := rfl
theorem hn28 : (ynT 28).name = "answeredIn" := rfl
theorem tb28 : ∀ pc, TBX PP ynT yhT 28 pc := tbH rfl ⟨Or.inr ⟨by decide, "java/lang/IllegalArgumentException", q2408, tex_all (Or.inr ⟨rfl, (List.mem_of_getElem? (i := 33) rfl)⟩) (Or.inr ⟨rfl, (List.mem_of_getElem? (i := 164) rfl)⟩) (Or.inl ⟨rfl, (List.mem_of_getElem? (i := 39) rfl)⟩) (Or.inr ⟨rfl, (List.mem_of_getElem? (i := 155) rfl)⟩) (Or.inr ⟨rfl, (List.mem_of_getElem? (i := 241) rfl)⟩)⟩, ⟨Or.inr ⟨by decide, "java/util/NoSuchElementException", q2409, tex_all (Or.inr ⟨rfl, (List.mem_of_getElem? (i := 38) rfl)⟩) (Or.inr ⟨rfl, (List.mem_of_getElem? (i := 168) rfl)⟩) (Or.inr ⟨rfl, (List.mem_of_getElem? (i := 150) rfl)⟩) (Or.inr ⟨rfl, (List.mem_of_getElem? (i := 159) rfl)⟩) (Or.inl ⟨rfl, (List.mem_of_getElem? (i := 71) rfl)⟩)⟩, trivial⟩⟩
theorem hb29 : ybT 29 = cX0_answersIn := rfl
theorem ho29 : (ynT 29).cls = "BallotBusLaw" := rfl
theorem hn29 : (ynT 29).name = "answersIn" := rfl
theorem tb29 : ∀ pc, TBX PP ynT yhT 29 pc := tbH rfl ⟨Or.inr ⟨by decide, "java/lang/IndexOutOfBoundsException", q2238, tex_all (Or.inr ⟨rfl, (List.mem_of_getElem? (i := 35) rfl)⟩) (Or.inl ⟨rfl, (List.mem_of_getElem? (i := 43) rfl)⟩) (Or.inr ⟨rfl, (List.mem_of_getElem? (i := 147) rfl)⟩) (Or.inr ⟨rfl, (List.mem_of_getElem? (i := 156) rfl)⟩) (Or.inr ⟨rfl, (List.mem_of_getElem? (i := 243) rfl)⟩)⟩, ⟨Or.inr ⟨by decide, "java/lang/IllegalArgumentException", q2408, tex_all (Or.inr ⟨rfl, (List.mem_of_getElem? (i := 33) rfl)⟩) (Or.inr ⟨rfl, (List.mem_of_getElem? (i := 164) rfl)⟩) (Or.inl ⟨rfl, (List.mem_of_getElem? (i := 39) rfl)⟩) (Or.inr ⟨rfl, (List.mem_of_getElem? (i := 155) rfl)⟩) (Or.inr ⟨rfl, (List.mem_of_getElem? (i := 241) rfl)⟩)⟩, trivial⟩⟩
theorem hb30 : ybT 30 = cX0_bestVeto := rfl
theorem ho30 : (ynT 30).cls = "BallotBusLaw" := rfl
theorem hn30 : (ynT 30).name = "bestVeto" := rfl
theorem tb30 : ∀ pc, TBX PP ynT yhT 30 pc := tbH rfl ⟨Or.inr ⟨by decide, "java/lang/IndexOutOfBoundsException", q2238, tex_all (Or.inr ⟨rfl, (List.mem_of_getElem? (i := 35) rfl)⟩) (Or.inl ⟨rfl, (List.mem_of_getElem? (i := 43) rfl)⟩) (Or.inr ⟨rfl, (List.mem_of_getElem? (i := 147) rfl)⟩) (Or.inr ⟨rfl, (List.mem_of_getElem? (i := 156) rfl)⟩) (Or.inr ⟨rfl, (List.mem_of_getElem? (i := 243) rfl)⟩)⟩, ⟨Or.inr ⟨by decide, "java/lang/IllegalArgumentException", q2408, tex_all (Or.inr ⟨rfl, (List.mem_of_getElem? (i := 33) rfl)⟩) (Or.inr ⟨rfl, (List.mem_of_getElem? (i := 164) rfl)⟩) (Or.inl ⟨rfl, (List.mem_of_getElem? (i := 39) rfl)⟩) (Or.inr ⟨rfl, (List.mem_of_getElem? (i := 155) rfl)⟩) (Or.inr ⟨rfl, (List.mem_of_getElem? (i := 241) rfl)⟩)⟩, trivial⟩⟩
theorem hb31 : ybT 31 = cX0_bestTally := rfl
theorem ho31 : (ynT 31).cls = "BallotBusLaw" := rfl
theorem hn31 : (ynT 31).name = "bestTally" := rfl
theorem tb31 : ∀ pc, TBX PP ynT yhT 31 pc := tbH rfl ⟨Or.inr ⟨by decide, "java/lang/IllegalArgumentException", q2408, tex_all (Or.inr ⟨rfl, (List.mem_of_getElem? (i := 33) rfl)⟩) (Or.inr ⟨rfl, (List.mem_of_getElem? (i := 164) rfl)⟩) (Or.inl ⟨rfl, (List.mem_of_getElem? (i := 39) rfl)⟩) (Or.inr ⟨rfl, (List.mem_of_getElem? (i := 155) rfl)⟩) (Or.inr ⟨rfl, (List.mem_of_getElem? (i := 241) rfl)⟩)⟩, trivial⟩
theorem hb32 : ybT 32 = cX0_bestBallot := rfl
theorem ho32 : (ynT 32).cls = "BallotBusLaw" := rfl
theorem hn32 : (ynT 32).name = "bestBallot" := rfl
theorem tb32 : ∀ pc, TBX PP ynT yhT 32 pc := tbH rfl ⟨Or.inr ⟨by decide, "java/lang/IllegalArgumentException", q2408, tex_all (Or.inr ⟨rfl, (List.mem_of_getElem? (i := 33) rfl)⟩) (Or.inr ⟨rfl, (List.mem_of_getElem? (i := 164) rfl)⟩) (Or.inl ⟨rfl, (List.mem_of_getElem? (i := 39) rfl)⟩) (Or.inr ⟨rfl, (List.mem_of_getElem? (i := 155) rfl)⟩) (Or.inr ⟨rfl, (List.mem_of_getElem? (i := 241) rfl)⟩)⟩, trivial⟩
theorem hb33 : ybT 33 = cX0_silentIn := rfl
theorem ho33 : (ynT 33).cls = "BallotBusLaw" := rfl
theorem hn33 : (ynT 33).name = "silentIn" := rfl
theorem tb33 : ∀ pc, TBX PP ynT yhT 33 pc := tbH rfl ⟨Or.inr ⟨by decide, "java/lang/IndexOutOfBoundsException", q2238, tex_all (Or.inr ⟨rfl, (List.mem_of_getElem? (i := 35) rfl)⟩) (Or.inl ⟨rfl, (List.mem_of_getElem? (i := 43) rfl)⟩) (Or.inr ⟨rfl, (List.mem_of_getElem? (i := 147) rfl)⟩) (Or.inr ⟨rfl, (List.mem_of_getElem? (i := 156) rfl)⟩) (Or.inr ⟨rfl, (List.mem_of_getElem? (i := 243) rfl)⟩)⟩, trivial⟩
theorem hb34 : ybT 34 = cX0_restoreState := rfl
theorem ho34 : (ynT 34).cls = "BallotBusLaw" := rfl
theorem hn34 : (ynT 34).name = "restoreState" := rfl
theorem tb34 : ∀ pc, TBX PP ynT yhT 34 pc := tbH rfl ⟨Or.inr ⟨by decide, "java/lang/IllegalStateException", q2667, tex_all (Or.inr ⟨rfl, (List.mem_of_getElem? (i := 34) rfl)⟩) (Or.inr ⟨rfl, (List.mem_of_getElem? (i := 165) rfl)⟩) (Or.inr ⟨rfl, (List.mem_of_getElem? (i := 146) rfl)⟩) (Or.inl ⟨rfl, (List.mem_of_getElem? (i := 41) rfl)⟩) (Or.inr ⟨rfl, (List.mem_of_getElem? (i := 242) rfl)⟩)⟩, trivial⟩
theorem hb35 : ybT 35 = cX1_init := rfl
theorem ho35 : (ynT 35).cls = "BallotBus" := rfl
theorem hn35 : (ynT 35).name = "<init>" := rfl
theorem tb35 : ∀ pc, TBX PP ynT yhT 35 pc := tbN rfl
theorem hb36 : ybT 36 = cX1_feed := rfl
theorem ho36 : (ynT 36).cls = "BallotBus" := rfl
theorem hn36 : (ynT 36).name = "feed" := rfl
theorem tb36 : ∀ pc, TBX PP ynT yhT 36 pc := tbN rfl
theorem hb37 : ybT 37 = cX1_append := rfl
theorem ho37 : (ynT 37).cls = "BallotBus" := rfl
theorem hn37 : (ynT 37).name = "append" := rfl
theorem tb37 : ∀ pc, TBX PP ynT yhT 37 pc := tbN rfl
theorem hb38 : ybT 38 = cX1_truncate := rfl
theorem ho38 : (ynT 38).cls = "BallotBus" := rfl
theorem hn38 : (ynT 38).name = "truncate" := rfl
theorem tb38 : ∀ pc, TBX PP ynT yhT 38 pc := tbN rfl
theorem hb39 : ybT 39 = cX1_inRange := rfl
theorem ho39 : (ynT 39).cls = "BallotBus" := rfl
theorem hn39 : (ynT 39).name = "inRange" := rfl
theorem tb39 : ∀ pc, TBX PP ynT yhT 39 pc := tbN rfl
theorem hb40 : ybT 40 = cX1_parse := rfl
theorem ho40 : (ynT 40).cls = "BallotBus" := rfl
theorem hn40 : (ynT 40).name = "parse" := rfl
theorem tb40 : ∀ pc, TBX PP ynT yhT 40 pc := tbH rfl ⟨Or.inr ⟨by decide, "BallotBus$ParseException", q1147, tex_all (Or.inl ⟨rfl, (List.mem_of_getElem? (i := 5) rfl)⟩) (Or.inr ⟨rfl, (List.mem_of_getElem? (i := 161) rfl)⟩) (Or.inr ⟨rfl, (List.mem_of_getElem? (i := 143) rfl)⟩) (Or.inr ⟨rfl, (List.mem_of_getElem? (i := 152) rfl)⟩) (Or.inr ⟨rfl, (List.mem_of_getElem? (i := 238) rfl)⟩)⟩, ⟨Or.inl ⟨rfl, tex_all rfl rfl rfl rfl rfl⟩, ⟨Or.inl ⟨rfl, tex_all rfl rfl rfl rfl rfl⟩, trivial⟩⟩⟩
theorem hb41 : ybT 41 = cX1_errorCode := rfl
theorem ho41 : (ynT 41).cls = "BallotBus" := rfl
theorem hn41 : (ynT 41).name = "errorCode" := rfl
theorem tb41 : ∀ pc, TBX PP ynT yhT 41 pc := tbN rfl
theorem hb42 : ybT 42 = cX1_errorOffset := rfl
theorem ho42 : (ynT 42).cls = "BallotBus" := rfl
theorem hn42 : (ynT 42).name = "errorOffset" := rfl
theorem tb42 : ∀ pc, TBX PP ynT yhT 42 pc := tbN rfl
theorem hb43 : ybT 43 = cX1_count := rfl
theorem ho43 : (ynT 43).cls = "BallotBus" := rfl
theorem hn43 : (ynT 43).name = "count" := rfl
theorem tb43 : ∀ pc, TBX PP ynT yhT 43 pc := tbN rfl
theorem hb44 : ybT 44 = cX1_setup := rfl
theorem ho44 : (ynT 44).cls = "BallotBus" := rfl
theorem hn44 : (ynT 44).name = "setup" := rfl
theorem tb44 : ∀ pc, TBX PP ynT yhT 44 pc := tbN rfl
theorem hb45 : ybT 45 = cX1_find := rfl
theorem ho45 : (ynT 45).cls = "BallotBus" := rfl
theorem hn45 : (ynT 45).name = "find" := rfl
theorem tb45 : ∀ pc, TBX PP ynT yhT 45 pc := tbN rfl
theorem hb46 : ybT 46 = cX1_progress := rfl
theorem ho46 : (ynT 46).cls = "BallotBus" := rfl
theorem hn46 : (ynT 46).name = "progress" := rfl
theorem tb46 : ∀ pc, TBX PP ynT yhT 46 pc := tbN rfl
theorem hb47 : ybT 47 = cX1_champion := rfl
theorem ho47 : (ynT 47).cls = "BallotBus" := rfl
theorem hn47 : (ynT 47).name = "champion" := rfl
theorem tb47 : ∀ pc, TBX PP ynT yhT 47 pc := tbN rfl
theorem hb48 : ybT 48 = cX1_votes := rfl
theorem ho48 : (ynT 48).cls = "BallotBus" := rfl
theorem hn48 : (ynT 48).name = "votes" := rfl
theorem tb48 : ∀ pc, TBX PP ynT yhT 48 pc := tbN rfl
theorem hb49 : ybT 49 = cX1_debts := rfl
theorem ho49 : (ynT 49).cls = "BallotBus" := rfl
theorem hn49 : (ynT 49).name = "debts" := rfl
theorem tb49 : ∀ pc, TBX PP ynT yhT 49 pc := tbN rfl
theorem hb50 : ybT 50 = cX1_richest := rfl
theorem ho50 : (ynT 50).cls = "BallotBus" := rfl
theorem hn50 : (ynT 50).name = "richest" := rfl
theorem tb50 : ∀ pc, TBX PP ynT yhT 50 pc := tbN rfl
theorem hb51 : ybT 51 = cX1_emptyIn := rfl
theorem ho51 : (ynT 51).cls = "BallotBus" := rfl
theorem hn51 : (ynT 51).name = "emptyIn" := rfl
theorem tb51 : ∀ pc, TBX PP ynT yhT 51 pc := tbN rfl
theorem hb52 : ybT 52 = cX1_printOrder := rfl
theorem ho52 : (ynT 52).cls = "BallotBus" := rfl
theorem hn52 : (ynT 52).name = "printOrder" := rfl
theorem tb52 : ∀ pc, TBX PP ynT yhT 52 pc := tbN rfl
theorem hb53 : ybT 53 = cX1_outputByte := rfl
theorem ho53 : (ynT 53).cls = "BallotBus" := rfl
theorem hn53 : (ynT 53).name = "outputByte" := rfl
theorem tb53 : ∀ pc, TBX PP ynT yhT 53 pc := tbN rfl
theorem hb54 : ybT 54 = cX1_saveState := rfl
theorem ho54 : (ynT 54).cls = "BallotBus" := rfl
theorem hn54 : (ynT 54).name = "saveState" := rfl
theorem tb54 : ∀ pc, TBX PP ynT yhT 54 pc := tbN rfl
theorem hb55 : ybT 55 = cX1_asker := rfl
theorem ho55 : (ynT 55).cls = "BallotBus" := rfl
theorem hn55 : (ynT 55).name = "asker" := rfl
theorem tb55 : ∀ pc, TBX PP ynT yhT 55 pc := tbN rfl
theorem hb56 : ybT 56 = cX1_checkAsker := rfl
theorem ho56 : (ynT 56).cls = "BallotBus" := rfl
theorem hn56 : (ynT 56).name = "checkAsker" := rfl
theorem tb56 : ∀ pc, TBX PP ynT yhT 56 pc := tbN rfl
theorem hb57 : ybT 57 = cX1_checkIndex := rfl
theorem ho57 : (ynT 57).cls = "BallotBus" := rfl
theorem hn57 : (ynT 57).name = "checkIndex" := rfl
theorem tb57 : ∀ pc, TBX PP ynT yhT 57 pc := tbN rfl
theorem hb58 : ybT 58 = cX1_waitingOf := rfl
theorem ho58 : (ynT 58).cls = "BallotBus" := rfl
theorem hn58 : (ynT 58).name = "waitingOf" := rfl
theorem tb58 : ∀ pc, TBX PP ynT yhT 58 pc := tbN rfl
theorem hb59 : ybT 59 = cX1_kind := rfl
theorem ho59 : (ynT 59).cls = "BallotBus" := rfl
theorem hn59 : (ynT 59).name = "kind" := rfl
theorem tb59 : ∀ pc, TBX PP ynT yhT 59 pc := tbN rfl
theorem hb60 : ybT 60 = cX1_checkKind := rfl
theorem ho60 : (ynT 60).cls = "BallotBus" := rfl
theorem hn60 : (ynT 60).name = "checkKind" := rfl
theorem tb60 : ∀ pc, TBX PP ynT yhT 60 pc := tbN rfl
theorem hb61 : ybT 61 = cX1_placeInOrder := rfl
theorem ho61 : (ynT 61).cls = "BallotBus" := rfl
theorem hn61 : (ynT 61).name = "placeInOrder" := rfl
theorem tb61 : ∀ pc, TBX PP ynT yhT 61 pc := tbN rfl
theorem hb62 : ybT 62 = cX1_ballot := rfl
theorem ho62 : (ynT 62).cls = "BallotBus" := rfl
theorem hn62 : (ynT 62).name = "ballot" := rfl
theorem tb62 : ∀ pc, TBX PP ynT yhT 62 pc := tbN rfl
theorem hb63 : ybT 63 = cX1_order := rfl
theorem ho63 : (ynT 63).cls = "BallotBus" := rfl
theorem hn63 : (ynT 63).name = "order" := rfl
theorem tb63 : ∀ pc, TBX PP ynT yhT 63 pc := tbN rfl
theorem hb64 : ybT 64 = cX1_request := rfl
theorem ho64 : (ynT 64).cls = "BallotBus" := rfl
theorem hn64 : (ynT 64).name = "request" := rfl
theorem tb64 : ∀ pc, TBX PP ynT yhT 64 pc := tbN rfl
theorem hb65 : ybT 65 = cX1_checkArgument := rfl
theorem ho65 : (ynT 65).cls = "BallotBus" := rfl
theorem hn65 : (ynT 65).name = "checkArgument" := rfl
theorem tb65 : ∀ pc, TBX PP ynT yhT 65 pc := tbN rfl
theorem hb66 : ybT 66 = cX1_checkElement := rfl
theorem ho66 : (ynT 66).cls = "BallotBus" := rfl
theorem hn66 : (ynT 66).name = "checkElement" := rfl
theorem tb66 : ∀ pc, TBX PP ynT yhT 66 pc := tbN rfl
theorem hb67 : ybT 67 = cX1_line := rfl
theorem ho67 : (ynT 67).cls = "BallotBus" := rfl
theorem hn67 : (ynT 67).name = "line" := rfl
theorem tb67 : ∀ pc, TBX PP ynT yhT 67 pc := tbN rfl
theorem hb68 : ybT 68 = cX1_answer := rfl
theorem ho68 : (ynT 68).cls = "BallotBus" := rfl
theorem hn68 : (ynT 68).name = "answer" := rfl
theorem tb68 : ∀ pc, TBX PP ynT yhT 68 pc := tbN rfl
theorem hb69 : ybT 69 = cX1_points := rfl
theorem ho69 : (ynT 69).cls = "BallotBus" := rfl
theorem hn69 : (ynT 69).name = "points" := rfl
theorem tb69 : ∀ pc, TBX PP ynT yhT 69 pc := tbN rfl
theorem hb70 : ybT 70 = cX1_firsts := rfl
theorem ho70 : (ynT 70).cls = "BallotBus" := rfl
theorem hn70 : (ynT 70).name = "firsts" := rfl
theorem tb70 : ∀ pc, TBX PP ynT yhT 70 pc := tbN rfl
theorem hb71 : ybT 71 = cX1_beats := rfl
theorem ho71 : (ynT 71).cls = "BallotBus" := rfl
theorem hn71 : (ynT 71).name = "beats" := rfl
theorem tb71 : ∀ pc, TBX PP ynT yhT 71 pc := tbN rfl
theorem hb72 : ybT 72 = cX1_wins := rfl
theorem ho72 : (ynT 72).cls = "BallotBus" := rfl
theorem hn72 : (ynT 72).name = "wins" := rfl
theorem tb72 : ∀ pc, TBX PP ynT yhT 72 pc := tbN rfl
theorem hb73 : ybT 73 = cX1_voted := rfl
theorem ho73 : (ynT 73).cls = "BallotBus" := rfl
theorem hn73 : (ynT 73).name = "voted" := rfl
theorem tb73 : ∀ pc, TBX PP ynT yhT 73 pc := tbN rfl
theorem hb74 : ybT 74 = cX1_isDecisive := rfl
theorem ho74 : (ynT 74).cls = "BallotBus" := rfl
theorem hn74 : (ynT 74).name = "isDecisive" := rfl
theorem tb74 : ∀ pc, TBX PP ynT yhT 74 pc := tbN rfl
theorem hb75 : ybT 75 = cX1_differences := rfl
theorem ho75 : (ynT 75).cls = "BallotBus" := rfl
theorem hn75 : (ynT 75).name = "differences" := rfl
theorem tb75 : ∀ pc, TBX PP ynT yhT 75 pc := tbN rfl
theorem hb76 : ybT 76 = cX1_placeIn := rfl
theorem ho76 : (ynT 76).cls = "BallotBus" := rfl
theorem hn76 : (ynT 76).name = "placeIn" := rfl
theorem tb76 : ∀ pc, TBX PP ynT yhT 76 pc := tbN rfl
theorem hb77 : ybT 77 = cX1_distance := rfl
theorem ho77 : (ynT 77).cls = "BallotBus" := rfl
theorem hn77 : (ynT 77).name = "distance" := rfl
theorem tb77 : ∀ pc, TBX PP ynT yhT 77 pc := tbN rfl
theorem hb78 : ybT 78 = cX1_turned := rfl
theorem ho78 : (ynT 78).cls = "BallotBus" := rfl
theorem hn78 : (ynT 78).name = "turned" := rfl
theorem tb78 : ∀ pc, TBX PP ynT yhT 78 pc := tbN rfl
theorem hb79 : ybT 79 = cX1_middle := rfl
theorem ho79 : (ynT 79).cls = "BallotBus" := rfl
theorem hn79 : (ynT 79).name = "middle" := rfl
theorem tb79 : ∀ pc, TBX PP ynT yhT 79 pc := tbN rfl
theorem hb80 : ybT 80 = cX1_lambda_middle_0 := rfl
theorem ho80 : (ynT 80).cls = "BallotBus" := rfl
theorem hn80 : (ynT 80).name = "lambda$middle$0" := rfl
theorem tb80 : ∀ pc, TBX PP ynT yhT 80 pc := tbN rfl
theorem hb81 : ybT 81 = cX1_keepIfMore := rfl
theorem ho81 : (ynT 81).cls = "BallotBus" := rfl
theorem hn81 : (ynT 81).name = "keepIfMore" := rfl
theorem tb81 : ∀ pc, TBX PP ynT yhT 81 pc := tbN rfl
theorem hb82 : ybT 82 = cX1_tryAll := rfl
theorem ho82 : (ynT 82).cls = "BallotBus" := rfl
theorem hn82 : (ynT 82).name = "tryAll" := rfl
theorem tb82 : ∀ pc, TBX PP ynT yhT 82 pc := tbN rfl
theorem hb83 : ybT 83 = cX1_meanWait := rfl
theorem ho83 : (ynT 83).cls = "BallotBus" := rfl
theorem hn83 : (ynT 83).name = "meanWait" := rfl
theorem tb83 : ∀ pc, TBX PP ynT yhT 83 pc := tbN rfl
theorem hb84 : ybT 84 = cX1_share := rfl
theorem ho84 : (ynT 84).cls = "BallotBus" := rfl
theorem hn84 : (ynT 84).name = "share" := rfl
theorem tb84 : ∀ pc, TBX PP ynT yhT 84 pc := tbN rfl
theorem hb85 : ybT 85 = cX1_run := rfl
theorem ho85 : (ynT 85).cls = "BallotBus" := rfl
theorem hn85 : (ynT 85).name = "run" := rfl
theorem tb85 : ∀ pc, TBX PP ynT yhT 85 pc := tbN rfl
theorem hb86 : ybT 86 = cX1_checkTicks := rfl
theorem ho86 : (ynT 86).cls = "BallotBus" := rfl
theorem hn86 : (ynT 86).name = "checkTicks" := rfl
theorem tb86 : ∀ pc, TBX PP ynT yhT 86 pc := tbN rfl
theorem hb87 : ybT 87 = cX1_remember := rfl
theorem ho87 : (ynT 87).cls = "BallotBus" := rfl
theorem hn87 : (ynT 87).name = "remember" := rfl
theorem tb87 : ∀ pc, TBX PP ynT yhT 87 pc := tbN rfl
theorem hb88 : ybT 88 = cX1_ask := rfl
theorem ho88 : (ynT 88).cls = "BallotBus" := rfl
theorem hn88 : (ynT 88).name = "ask" := rfl
theorem tb88 : ∀ pc, TBX PP ynT yhT 88 pc := tbN rfl
theorem hb89 : ybT 89 = cX1_checkState := rfl
theorem ho89 : (ynT 89).cls = "BallotBus" := rfl
theorem hn89 : (ynT 89).name = "checkState" := rfl
theorem tb89 : ∀ pc, TBX PP ynT yhT 89 pc := tbN rfl
theorem hb90 : ybT 90 = cX1_cancel := rfl
theorem ho90 : (ynT 90).cls = "BallotBus" := rfl
theorem hn90 : (ynT 90).name = "cancel" := rfl
theorem tb90 : ∀ pc, TBX PP ynT yhT 90 pc := tbN rfl
theorem hb91 : ybT 91 = cX1_cast := rfl
theorem ho91 : (ynT 91).cls = "BallotBus" := rfl
theorem hn91 : (ynT 91).name = "cast" := rfl
theorem tb91 : ∀ pc, TBX PP ynT yhT 91 pc := tbN rfl
theorem hb92 : ybT 92 = cX1_veto := rfl
theorem ho92 : (ynT 92).cls = "BallotBus" := rfl
theorem hn92 : (ynT 92).name = "veto" := rfl
theorem tb92 : ∀ pc, TBX PP ynT yhT 92 pc := tbN rfl
theorem hb93 : ybT 93 = cX1_payBack := rfl
theorem ho93 : (ynT 93).cls = "BallotBus" := rfl
theorem hn93 : (ynT 93).name = "payBack" := rfl
theorem tb93 : ∀ pc, TBX PP ynT yhT 93 pc := tbN rfl
theorem hb94 : ybT 94 = cX1_setTally := rfl
theorem ho94 : (ynT 94).cls = "BallotBus" := rfl
theorem hn94 : (ynT 94).name = "setTally" := rfl
theorem tb94 : ∀ pc, TBX PP ynT yhT 94 pc := tbN rfl
theorem hb95 : ybT 95 = cX1_setManner := rfl
theorem ho95 : (ynT 95).cls = "BallotBus" := rfl
theorem hn95 : (ynT 95).name = "setManner" := rfl
theorem tb95 : ∀ pc, TBX PP ynT yhT 95 pc := tbN rfl
theorem hb96 : ybT 96 = cX1_undo := rfl
theorem ho96 : (ynT 96).cls = "BallotBus" := rfl
theorem hn96 : (ynT 96).name = "undo" := rfl
theorem tb96 : ∀ pc, TBX PP ynT yhT 96 pc := tbN rfl
theorem hb97 : ybT 97 = cX1_answeredIn := rfl
theorem ho97 : (ynT 97).cls = "BallotBus" := rfl
theorem hn97 : (ynT 97).name = "answeredIn" := rfl
theorem tb97 : ∀ pc, TBX PP ynT yhT 97 pc := tbN rfl
theorem hb98 : ybT 98 = cX1_answersIn := rfl
theorem ho98 : (ynT 98).cls = "BallotBus" := rfl
theorem hn98 : (ynT 98).name = "answersIn" := rfl
theorem tb98 : ∀ pc, TBX PP ynT yhT 98 pc := tbN rfl
theorem hb99 : ybT 99 = cX1_bestVeto := rfl
theorem ho99 : (ynT 99).cls = "BallotBus" := rfl
theorem hn99 : (ynT 99).name = "bestVeto" := rfl
theorem tb99 : ∀ pc, TBX PP ynT yhT 99 pc := tbN rfl
theorem hb100 : ybT 100 = cX1_bestTally := rfl
theorem ho100 : (ynT 100).cls = "BallotBus" := rfl
theorem hn100 : (ynT 100).name = "bestTally" := rfl
theorem tb100 : ∀ pc, TBX PP ynT yhT 100 pc := tbN rfl
theorem hb101 : ybT 101 = cX1_bestBallot := rfl
theorem ho101 : (ynT 101).cls = "BallotBus" := rfl
theorem hn101 : (ynT 101).name = "bestBallot" := rfl
theorem tb101 : ∀ pc, TBX PP ynT yhT 101 pc := tbN rfl
theorem hb102 : ybT 102 = cX1_lambda_bestBallot_1 := rfl
theorem ho102 : (ynT 102).cls = "BallotBus" := rfl
theorem hn102 : (ynT 102).name = "lambda$bestBallot$1" := rfl
theorem tb102 : ∀ pc, TBX PP ynT yhT 102 pc := tbN rfl
theorem hb103 : ybT 103 = cX1_codeOf := rfl
theorem ho103 : (ynT 103).cls = "BallotBus" := rfl
theorem hn103 : (ynT 103).name = "codeOf" := rfl
theorem tb103 : ∀ pc, TBX PP ynT yhT 103 pc := tbN rfl
theorem hb104 : ybT 104 = cX1_silentIn := rfl
theorem ho104 : (ynT 104).cls = "BallotBus" := rfl
theorem hn104 : (ynT 104).name = "silentIn" := rfl
theorem tb104 : ∀ pc, TBX PP ynT yhT 104 pc := tbN rfl
theorem hb105 : ybT 105 = cX1_restoreState := rfl
theorem ho105 : (ynT 105).cls = "BallotBus" := rfl
theorem hn105 : (ynT 105).name = "restoreState" := rfl
theorem tb105 : ∀ pc, TBX PP ynT yhT 105 pc := tbN rfl
theorem hb106 : ybT 106 = cX2_values := rfl
theorem ho106 : (ynT 106).cls = "BallotBus$Tally" := rfl
theorem hn106 : (ynT 106).name = "values" := rfl
theorem tb106 : ∀ pc, TBX PP ynT yhT 106 pc := tbN rfl
theorem hb107 : ybT 107 = cX2_order := rfl
theorem ho107 : (ynT 107).cls = "BallotBus$Tally" := rfl
theorem hn107 : (ynT 107).name = "order" := rfl
theorem tb107 : ∀ pc, TBX PP ynT yhT 107 pc := tbN rfl
theorem hb108 : ybT 108 = cX3_init := rfl
theorem ho108 : (ynT 108).cls = "BallotBus$Setup" := rfl
theorem hn108 : (ynT 108).name = "<init>" := rfl
theorem tb108 : ∀ pc, TBX PP ynT yhT 108 pc := tbN rfl
theorem hb109 : ybT 109 = cX3_addClass := rfl
theorem ho109 : (ynT 109).cls = "BallotBus$Setup" := rfl
theorem hn109 : (ynT 109).name = "addClass" := rfl
theorem tb109 : ∀ pc, TBX PP ynT yhT 109 pc := tbN rfl
theorem hb110 : ybT 110 = cX3_classes := rfl
theorem ho110 : (ynT 110).cls = "BallotBus$Setup" := rfl
theorem hn110 : (ynT 110).name = "classes" := rfl
theorem tb110 : ∀ pc, TBX PP ynT yhT 110 pc := tbN rfl
theorem hb111 : ybT 111 = cX3_addAsker := rfl
theorem ho111 : (ynT 111).cls = "BallotBus$Setup" := rfl
theorem hn111 : (ynT 111).name = "addAsker" := rfl
theorem tb111 : ∀ pc, TBX PP ynT yhT 111 pc := tbN rfl
theorem hb112 : ybT 112 = cX3_askers := rfl
theorem ho112 : (ynT 112).cls = "BallotBus$Setup" := rfl
theorem hn112 : (ynT 112).name = "askers" := rfl
theorem tb112 : ∀ pc, TBX PP ynT yhT 112 pc := tbN rfl
theorem hb113 : ybT 113 = cX4_init := rfl
theorem ho113 : (ynT 113).cls = "BallotBus$Bus" := rfl
theorem hn113 : (ynT 113).name = "<init>" := rfl
theorem tb113 : ∀ pc, TBX PP ynT yhT 113 pc := tbN rfl
theorem hb114 : ybT 114 = cX4_lambda_new_0 := rfl
theorem ho114 : (ynT 114).cls = "BallotBus$Bus" := rfl
theorem hn114 : (ynT 114).name = "lambda$new$0" := rfl
theorem tb114 : ∀ pc, TBX PP ynT yhT 114 pc := tbN rfl
theorem hb115 : ybT 115 = cX4_lambda_new_1 := rfl
theorem ho115 : (ynT 115).cls = "BallotBus$Bus" := rfl
theorem hn115 : (ynT 115).name = "lambda$new$1" := rfl
theorem tb115 : ∀ pc, TBX PP ynT yhT 115 pc := tbN rfl
theorem hb116 : ybT 116 = cX4_lambda_new_2 := rfl
theorem ho116 : (ynT 116).cls = "BallotBus$Bus" := rfl
theorem hn116 : (ynT 116).name = "lambda$new$2" := rfl
theorem tb116 : ∀ pc, TBX PP ynT yhT 116 pc := tbN rfl
theorem hb117 : ybT 117 = cX4_lambda_new_3 := rfl
theorem ho117 : (ynT 117).cls = "BallotBus$Bus" := rfl
theorem hn117 : (ynT 117).name = "lambda$new$3" := rfl
theorem tb117 : ∀ pc, TBX PP ynT yhT 117 pc := tbN rfl
theorem hb118 : ybT 118 = cX4_count := rfl
theorem ho118 : (ynT 118).cls = "BallotBus$Bus" := rfl
theorem hn118 : (ynT 118).name = "count" := rfl
theorem tb118 : ∀ pc, TBX PP ynT yhT 118 pc := tbN rfl
theorem hb119 : ybT 119 = cX4_counts := rfl
theorem ho119 : (ynT 119).cls = "BallotBus$Bus" := rfl
theorem hn119 : (ynT 119).name = "counts" := rfl
theorem tb119 : ∀ pc, TBX PP ynT yhT 119 pc := tbN rfl
theorem hb120 : ybT 120 = cX4_copy := rfl
theorem ho120 : (ynT 120).cls = "BallotBus$Bus" := rfl
theorem hn120 : (ynT 120).name = "copy" := rfl
theorem tb120 : ∀ pc, TBX PP ynT yhT 120 pc := tbN rfl
theorem hb121 : ybT 121 = cX4_take := rfl
theorem ho121 : (ynT 121).cls = "BallotBus$Bus" := rfl
theorem hn121 : (ynT 121).name = "take" := rfl
theorem tb121 : ∀ pc, TBX PP ynT yhT 121 pc := tbN rfl
theorem hb122 : ybT 122 = cX4_openRequests := rfl
theorem ho122 : (ynT 122).cls = "BallotBus$Bus" := rfl
theorem hn122 : (ynT 122).name = "openRequests" := rfl
theorem tb122 : ∀ pc, TBX PP ynT yhT 122 pc := tbN rfl
theorem hb123 : ybT 123 = cX4_tick := rfl
theorem ho123 : (ynT 123).cls = "BallotBus$Bus" := rfl
theorem hn123 : (ynT 123).name = "tick" := rfl
theorem tb123 : ∀ pc, TBX PP ynT yhT 123 pc := tbN rfl
theorem hb124 : ybT 124 = cX4_vote := rfl
theorem ho124 : (ynT 124).cls = "BallotBus$Bus" := rfl
theorem hn124 : (ynT 124).name = "vote" := rfl
theorem tb124 : ∀ pc, TBX PP ynT yhT 124 pc := tbN rfl
theorem hb125 : ybT 125 = cX4_pass := rfl
theorem ho125 : (ynT 125).cls = "BallotBus$Bus" := rfl
theorem hn125 : (ynT 125).name = "pass" := rfl
theorem tb125 : ∀ pc, TBX PP ynT yhT 125 pc := tbN rfl
theorem hb126 : ybT 126 = cX4_fetch := rfl
theorem ho126 : (ynT 126).cls = "BallotBus$Bus" := rfl
theorem hn126 : (ynT 126).name = "fetch" := rfl
theorem tb126 : ∀ pc, TBX PP ynT yhT 126 pc := tbN rfl
theorem hb127 : ybT 127 = cX4_isVetoed := rfl
theorem ho127 : (ynT 127).cls = "BallotBus$Bus" := rfl
theorem hn127 : (ynT 127).name = "isVetoed" := rfl
theorem tb127 : ∀ pc, TBX PP ynT yhT 127 pc := tbN rfl
theorem hb128 : ybT 128 = cX4_first := rfl
theorem ho128 : (ynT 128).cls = "BallotBus$Bus" := rfl
theorem hn128 : (ynT 128).name = "first" := rfl
theorem tb128 : ∀ pc, TBX PP ynT yhT 128 pc := tbN rfl
theorem hb129 : ybT 129 = cX4_drop := rfl
theorem ho129 : (ynT 129).cls = "BallotBus$Bus" := rfl
theorem hn129 : (ynT 129).name = "drop" := rfl
theorem tb129 : ∀ pc, TBX PP ynT yhT 129 pc := tbN rfl
theorem hb130 : ybT 130 = cX4_placeOf := rfl
theorem ho130 : (ynT 130).cls = "BallotBus$Bus" := rfl
theorem hn130 : (ynT 130).name = "placeOf" := rfl
theorem tb130 : ∀ pc, TBX PP ynT yhT 130 pc := tbN rfl
theorem hb131 : ybT 131 = cX4_answer := rfl
theorem ho131 : (ynT 131).cls = "BallotBus$Bus" := rfl
theorem hn131 : (ynT 131).name = "answer" := rfl
theorem tb131 : ∀ pc, TBX PP ynT yhT 131 pc := tbN rfl
theorem hb132 : ybT 132 = cX4_find := rfl
theorem ho132 : (ynT 132).cls = "BallotBus$Bus" := rfl
theorem hn132 : (ynT 132).name = "find" := rfl
theorem tb132 : ∀ pc, TBX PP ynT yhT 132 pc := tbN rfl
theorem hb133 : ybT 133 = cX4_lay := rfl
theorem ho133 : (ynT 133).cls = "BallotBus$Bus" := rfl
theorem hn133 : (ynT 133).name = "lay" := rfl
theorem tb133 : ∀ pc, TBX PP ynT yhT 133 pc := tbN rfl
theorem hb134 : ybT 134 = cX4_run := rfl
theorem ho134 : (ynT 134).cls = "BallotBus$Bus" := rfl
theorem hn134 : (ynT 134).name = "run" := rfl
theorem tb134 : ∀ pc, TBX PP ynT yhT 134 pc := tbN rfl
theorem hb135 : ybT 135 = cX4_cast := rfl
theorem ho135 : (ynT 135).cls = "BallotBus$Bus" := rfl
theorem hn135 : (ynT 135).name = "cast" := rfl
theorem tb135 : ∀ pc, TBX PP ynT yhT 135 pc := tbN rfl
theorem hb136 : ybT 136 = cX4_canVeto := rfl
theorem ho136 : (ynT 136).cls = "BallotBus$Bus" := rfl
theorem hn136 : (ynT 136).name = "canVeto" := rfl
theorem tb136 : ∀ pc, TBX PP ynT yhT 136 pc := tbN rfl
theorem hb137 : ybT 137 = cX4_veto := rfl
theorem ho137 : (ynT 137).cls = "BallotBus$Bus" := rfl
theorem hn137 : (ynT 137).name = "veto" := rfl
theorem tb137 : ∀ pc, TBX PP ynT yhT 137 pc := tbN rfl
theorem hb138 : ybT 138 = cX5_init := rfl
theorem ho138 : (ynT 138).cls = "BallotBus$Sheet" := rfl
theorem hn138 : (ynT 138).name = "<init>" := rfl
theorem tb138 : ∀ pc, TBX PP ynT yhT 138 pc := tbN rfl
theorem hb139 : ybT 139 = cX5_clear := rfl
theorem ho139 : (ynT 139).cls = "BallotBus$Sheet" := rfl
theorem hn139 : (ynT 139).name = "clear" := rfl
theorem tb139 : ∀ pc, TBX PP ynT yhT 139 pc := tbN rfl
theorem hb140 : ybT 140 = cX5_add := rfl
theorem ho140 : (ynT 140).cls = "BallotBus$Sheet" := rfl
theorem hn140 : (ynT 140).name = "add" := rfl
theorem tb140 : ∀ pc, TBX PP ynT yhT 140 pc := tbN rfl
theorem hb141 : ybT 141 = cX5_wins := rfl
theorem ho141 : (ynT 141).cls = "BallotBus$Sheet" := rfl
theorem hn141 : (ynT 141).name = "wins" := rfl
theorem tb141 : ∀ pc, TBX PP ynT yhT 141 pc := tbN rfl
theorem hb142 : ybT 142 = cX5_beats := rfl
theorem ho142 : (ynT 142).cls = "BallotBus$Sheet" := rfl
theorem hn142 : (ynT 142).name = "beats" := rfl
theorem tb142 : ∀ pc, TBX PP ynT yhT 142 pc := tbN rfl
theorem hb143 : ybT 143 = cX6_init := rfl
theorem ho143 : (ynT 143).cls = "BallotBusModel" := rfl
theorem hn143 : (ynT 143).name = "<init>" := rfl
theorem tb143 : ∀ pc, TBX PP ynT yhT 143 pc := tbN rfl
theorem hb144 : ybT 144 = cX6_clears := rfl
theorem ho144 : (ynT 144).cls = "BallotBusModel" := rfl
theorem hn144 : (ynT 144).name = "clears" := rfl
theorem tb144 : ∀ pc, TBX PP ynT yhT 144 pc := tbN rfl
theorem hb145 : ybT 145 = cX6_takesDraft := rfl
theorem ho145 : (ynT 145).cls = "BallotBusModel" := rfl
theorem hn145 : (ynT 145).name = "takesDraft" := rfl
theorem tb145 : ∀ pc, TBX PP ynT yhT 145 pc := tbN rfl
theorem hb146 : ybT 146 = cX6_copies := rfl
theorem ho146 : (ynT 146).cls = "BallotBusModel" := rfl
theorem hn146 : (ynT 146).name = "copies" := rfl
theorem tb146 : ∀ pc, TBX PP ynT yhT 146 pc := tbN rfl
theorem hb147 : ybT 147 = cX6_thrown := rfl
theorem ho147 : (ynT 147).cls = "BallotBusModel" := rfl
theorem hn147 : (ynT 147).name = "thrown" := rfl
theorem tb147 : ∀ pc, TBX PP ynT yhT 147 pc := tbN rfl
theorem hb148 : ybT 148 = cX6_undo := rfl
theorem ho148 : (ynT 148).cls = "BallotBusModel" := rfl
theorem hn148 : (ynT 148).name = "undo" := rfl
theorem tb148 : ∀ pc, TBX PP ynT yhT 148 pc := tbN rfl
theorem hb149 : ybT 149 = cX6_is := rfl
theorem ho149 : (ynT 149).cls = "BallotBusModel" := rfl
theorem hn149 : (ynT 149).name = "is" := rfl
theorem tb149 : ∀ pc, TBX PP ynT yhT 149 pc := tbN rfl
theorem hb150 : ybT 150 = cX6_saveState := rfl
theorem ho150 : (ynT 150).cls = "BallotBusModel" := rfl
theorem hn150 : (ynT 150).name = "saveState" := rfl
theorem tb150 : ∀ pc, TBX PP ynT yhT 150 pc := tbN rfl
theorem hb151 : ybT 151 = cX6_restoreState := rfl
theorem ho151 : (ynT 151).cls = "BallotBusModel" := rfl
theorem hn151 : (ynT 151).name = "restoreState" := rfl
theorem tb151 : ∀ pc, TBX PP ynT yhT 151 pc := tbN rfl
theorem hb152 : ybT 152 = cX6_run := rfl
theorem ho152 : (ynT 152).cls = "BallotBusModel" := rfl
theorem hn152 : (ynT 152).name = "run" := rfl
theorem tb152 : ∀ pc, TBX PP ynT yhT 152 pc := tbN rfl
theorem hb153 : ybT 153 = cX6_areTicks := rfl
theorem ho153 : (ynT 153).cls = "BallotBusModel" := rfl
theorem hn153 : (ynT 153).name = "areTicks" := rfl
theorem tb153 : ∀ pc, TBX PP ynT yhT 153 pc := tbN rfl
theorem hb154 : ybT 154 = cX6_isIn := rfl
theorem ho154 : (ynT 154).cls = "BallotBusModel" := rfl
theorem hn154 : (ynT 154).name = "isIn" := rfl
theorem tb154 : ∀ pc, TBX PP ynT yhT 154 pc := tbN rfl
theorem hb155 : ybT 155 = cX6_starts := rfl
theorem ho155 : (ynT 155).cls = "BallotBusModel" := rfl
theorem hn155 : (ynT 155).name = "starts" := rfl
theorem tb155 : ∀ pc, TBX PP ynT yhT 155 pc := tbN rfl
theorem hb156 : ybT 156 = cX6_goesOn := rfl
theorem ho156 : (ynT 156).cls = "BallotBusModel" := rfl
theorem hn156 : (ynT 156).name = "goesOn" := rfl
theorem tb156 : ∀ pc, TBX PP ynT yhT 156 pc := tbN rfl
theorem hb157 : ybT 157 = cX6_answeredOf := rfl
theorem ho157 : (ynT 157).cls = "BallotBusModel" := rfl
theorem hn157 : (ynT 157).name = "answeredOf" := rfl
theorem tb157 : ∀ pc, TBX PP ynT yhT 157 pc := tbN rfl
theorem hb158 : ybT 158 = cX6_ticks := rfl
theorem ho158 : (ynT 158).cls = "BallotBusModel" := rfl
theorem hn158 : (ynT 158).name = "ticks" := rfl
theorem tb158 : ∀ pc, TBX PP ynT yhT 158 pc := tbN rfl
theorem hb159 : ybT 159 = cX6_ordersAnew := rfl
theorem ho159 : (ynT 159).cls = "BallotBusModel" := rfl
theorem hn159 : (ynT 159).name = "ordersAnew" := rfl
theorem tb159 : ∀ pc, TBX PP ynT yhT 159 pc := tbN rfl
theorem hb160 : ybT 160 = cX6_tallies := rfl
theorem ho160 : (ynT 160).cls = "BallotBusModel" := rfl
theorem hn160 : (ynT 160).name = "tallies" := rfl
theorem tb160 : ∀ pc, TBX PP ynT yhT 160 pc := tbN rfl
theorem hb161 : ybT 161 = cX6_doesAnyCount := rfl
theorem ho161 : (ynT 161).cls = "BallotBusModel" := rfl
theorem hn161 : (ynT 161).name = "doesAnyCount" := rfl
theorem tb161 : ∀ pc, TBX PP ynT yhT 161 pc := tbN rfl
theorem hb162 : ybT 162 = cX6_counts := rfl
theorem ho162 : (ynT 162).cls = "BallotBusModel" := rfl
theorem hn162 : (ynT 162).name = "counts" := rfl
theorem tb162 : ∀ pc, TBX PP ynT yhT 162 pc := tbN rfl
theorem hb163 : ybT 163 = cX6_isBetter := rfl
theorem ho163 : (ynT 163).cls = "BallotBusModel" := rfl
theorem hn163 : (ynT 163).name = "isBetter" := rfl
theorem tb163 : ∀ pc, TBX PP ynT yhT 163 pc := tbN rfl
theorem hb164 : ybT 164 = cX6_firstsOf := rfl
theorem ho164 : (ynT 164).cls = "BallotBusModel" := rfl
theorem hn164 : (ynT 164).name = "firstsOf" := rfl
theorem tb164 : ∀ pc, TBX PP ynT yhT 164 pc := tbN rfl
theorem hb165 : ybT 165 = cX6_onBallot := rfl
theorem ho165 : (ynT 165).cls = "BallotBusModel" := rfl
theorem hn165 : (ynT 165).name = "onBallot" := rfl
theorem tb165 : ∀ pc, TBX PP ynT yhT 165 pc := tbN rfl
theorem hb166 : ybT 166 = cX6_winsOf := rfl
theorem ho166 : (ynT 166).cls = "BallotBusModel" := rfl
theorem hn166 : (ynT 166).name = "winsOf" := rfl
theorem tb166 : ∀ pc, TBX PP ynT yhT 166 pc := tbN rfl
theorem hb167 : ybT 167 = cX6_doesBeat := rfl
theorem ho167 : (ynT 167).cls = "BallotBusModel" := rfl
theorem hn167 : (ynT 167).name = "doesBeat" := rfl
theorem tb167 : ∀ pc, TBX PP ynT yhT 167 pc := tbN rfl
theorem hb168 : ybT 168 = cX6_leadOf := rfl
theorem ho168 : (ynT 168).cls = "BallotBusModel" := rfl
theorem hn168 : (ynT 168).name = "leadOf" := rfl
theorem tb168 : ∀ pc, TBX PP ynT yhT 168 pc := tbN rfl
theorem hb169 : ybT 169 = cX6_placeOf := rfl
theorem ho169 : (ynT 169).cls = "BallotBusModel" := rfl
theorem hn169 : (ynT 169).name = "placeOf" := rfl
theorem tb169 : ∀ pc, TBX PP ynT yhT 169 pc := tbN rfl
theorem hb170 : ybT 170 = cX6_pointsOf := rfl
theorem ho170 : (ynT 170).cls = "BallotBusModel" := rfl
theorem hn170 : (ynT 170).name = "pointsOf" := rfl
theorem tb170 : ∀ pc, TBX PP ynT yhT 170 pc := tbN rfl
theorem hb171 : ybT 171 = cX6_passesOn := rfl
theorem ho171 : (ynT 171).cls = "BallotBusModel" := rfl
theorem hn171 : (ynT 171).name = "passesOn" := rfl
theorem tb171 : ∀ pc, TBX PP ynT yhT 171 pc := tbN rfl
theorem hb172 : ybT 172 = cX6_lesser := rfl
theorem ho172 : (ynT 172).cls = "BallotBusModel" := rfl
theorem hn172 : (ynT 172).name = "lesser" := rfl
theorem tb172 : ∀ pc, TBX PP ynT yhT 172 pc := tbN rfl
theorem hb173 : ybT 173 = cX6_takesNext := rfl
theorem ho173 : (ynT 173).cls = "BallotBusModel" := rfl
theorem hn173 : (ynT 173).name = "takesNext" := rfl
theorem tb173 : ∀ pc, TBX PP ynT yhT 173 pc := tbN rfl
theorem hb174 : ybT 174 = cX6_has := rfl
theorem ho174 : (ynT 174).cls = "BallotBusModel" := rfl
theorem hn174 : (ynT 174).name = "has" := rfl
theorem tb174 : ∀ pc, TBX PP ynT yhT 174 pc := tbN rfl
theorem hb175 : ybT 175 = cX6_inLine := rfl
theorem ho175 : (ynT 175).cls = "BallotBusModel" := rfl
theorem hn175 : (ynT 175).name = "inLine" := rfl
theorem tb175 : ∀ pc, TBX PP ynT yhT 175 pc := tbN rfl
theorem hb176 : ybT 176 = cX6_isInLine := rfl
theorem ho176 : (ynT 176).cls = "BallotBusModel" := rfl
theorem hn176 : (ynT 176).name = "isInLine" := rfl
theorem tb176 : ∀ pc, TBX PP ynT yhT 176 pc := tbN rfl
theorem hb177 : ybT 177 = cX6_of := rfl
theorem ho177 : (ynT 177).cls = "BallotBusModel" := rfl
theorem hn177 : (ynT 177).name = "of" := rfl
theorem tb177 : ∀ pc, TBX PP ynT yhT 177 pc := tbN rfl
theorem hb178 : ybT 178 = cX6_doesWait := rfl
theorem ho178 : (ynT 178).cls = "BallotBusModel" := rfl
theorem hn178 : (ynT 178).name = "doesWait" := rfl
theorem tb178 : ∀ pc, TBX PP ynT yhT 178 pc := tbN rfl
theorem hb179 : ybT 179 = cX6_aheadOf := rfl
theorem ho179 : (ynT 179).cls = "BallotBusModel" := rfl
theorem hn179 : (ynT 179).name = "aheadOf" := rfl
theorem tb179 : ∀ pc, TBX PP ynT yhT 179 pc := tbN rfl
theorem hb180 : ybT 180 = cX6_isAhead := rfl
theorem ho180 : (ynT 180).cls = "BallotBusModel" := rfl
theorem hn180 : (ynT 180).name = "isAhead" := rfl
theorem tb180 : ∀ pc, TBX PP ynT yhT 180 pc := tbN rfl
theorem hb181 : ybT 181 = cX6_claimOf := rfl
theorem ho181 : (ynT 181).cls = "BallotBusModel" := rfl
theorem hn181 : (ynT 181).name = "claimOf" := rfl
theorem tb181 : ∀ pc, TBX PP ynT yhT 181 pc := tbN rfl
theorem hb182 : ybT 182 = cX6_worksOn := rfl
theorem ho182 : (ynT 182).cls = "BallotBusModel" := rfl
theorem hn182 : (ynT 182).name = "worksOn" := rfl
theorem tb182 : ∀ pc, TBX PP ynT yhT 182 pc := tbN rfl
theorem hb183 : ybT 183 = cX6_indexOf := rfl
theorem ho183 : (ynT 183).cls = "BallotBusModel" := rfl
theorem hn183 : (ynT 183).name = "indexOf" := rfl
theorem tb183 : ∀ pc, TBX PP ynT yhT 183 pc := tbN rfl
theorem hb184 : ybT 184 = cX6_answers := rfl
theorem ho184 : (ynT 184).cls = "BallotBusModel" := rfl
theorem hn184 : (ynT 184).name = "answers" := rfl
theorem tb184 : ∀ pc, TBX PP ynT yhT 184 pc := tbN rfl
theorem hb185 : ybT 185 = cX6_takesOut := rfl
theorem ho185 : (ynT 185).cls = "BallotBusModel" := rfl
theorem hn185 : (ynT 185).name = "takesOut" := rfl
theorem tb185 : ∀ pc, TBX PP ynT yhT 185 pc := tbN rfl
theorem hb186 : ybT 186 = cX6_done := rfl
theorem ho186 : (ynT 186).cls = "BallotBusModel" := rfl
theorem hn186 : (ynT 186).name = "done" := rfl
theorem tb186 : ∀ pc, TBX PP ynT yhT 186 pc := tbN rfl
theorem hb187 : ybT 187 = cX6_ask := rfl
theorem ho187 : (ynT 187).cls = "BallotBusModel" := rfl
theorem hn187 : (ynT 187).name = "ask" := rfl
theorem tb187 : ∀ pc, TBX PP ynT yhT 187 pc := tbN rfl
theorem hb188 : ybT 188 = cX6_isAsker := rfl
theorem ho188 : (ynT 188).cls = "BallotBusModel" := rfl
theorem hn188 : (ynT 188).name = "isAsker" := rfl
theorem tb188 : ∀ pc, TBX PP ynT yhT 188 pc := tbN rfl
theorem hb189 : ybT 189 = cX6_isClass := rfl
theorem ho189 : (ynT 189).cls = "BallotBusModel" := rfl
theorem hn189 : (ynT 189).name = "isClass" := rfl
theorem tb189 : ∀ pc, TBX PP ynT yhT 189 pc := tbN rfl
theorem hb190 : ybT 190 = cX6_may := rfl
theorem ho190 : (ynT 190).cls = "BallotBusModel" := rfl
theorem hn190 : (ynT 190).name = "may" := rfl
theorem tb190 : ∀ pc, TBX PP ynT yhT 190 pc := tbN rfl
theorem hb191 : ybT 191 = cX6_comes := rfl
theorem ho191 : (ynT 191).cls = "BallotBusModel" := rfl
theorem hn191 : (ynT 191).name = "comes" := rfl
theorem tb191 : ∀ pc, TBX PP ynT yhT 191 pc := tbN rfl
theorem hb192 : ybT 192 = cX6_cancel := rfl
theorem ho192 : (ynT 192).cls = "BallotBusModel" := rfl
theorem hn192 : (ynT 192).name = "cancel" := rfl
theorem tb192 : ∀ pc, TBX PP ynT yhT 192 pc := tbN rfl
theorem hb193 : ybT 193 = cX6_cast := rfl
theorem ho193 : (ynT 193).cls = "BallotBusModel" := rfl
theorem hn193 : (ynT 193).name = "cast" := rfl
theorem tb193 : ∀ pc, TBX PP ynT yhT 193 pc := tbN rfl
theorem hb194 : ybT 194 = cX6_isBallot := rfl
theorem ho194 : (ynT 194).cls = "BallotBusModel" := rfl
theorem hn194 : (ynT 194).name = "isBallot" := rfl
theorem tb194 : ∀ pc, TBX PP ynT yhT 194 pc := tbN rfl
theorem hb195 : ybT 195 = cX6_casts := rfl
theorem ho195 : (ynT 195).cls = "BallotBusModel" := rfl
theorem hn195 : (ynT 195).name = "casts" := rfl
theorem tb195 : ∀ pc, TBX PP ynT yhT 195 pc := tbN rfl
theorem hb196 : ybT 196 = cX6_veto := rfl
theorem ho196 : (ynT 196).cls = "BallotBusModel" := rfl
theorem hn196 : (ynT 196).name = "veto" := rfl
theorem tb196 : ∀ pc, TBX PP ynT yhT 196 pc := tbN rfl
theorem hb197 : ybT 197 = cX6_canVeto := rfl
theorem ho197 : (ynT 197).cls = "BallotBusModel" := rfl
theorem hn197 : (ynT 197).name = "canVeto" := rfl
theorem tb197 : ∀ pc, TBX PP ynT yhT 197 pc := tbN rfl
theorem hb198 : ybT 198 = cX6_debtBehind := rfl
theorem ho198 : (ynT 198).cls = "BallotBusModel" := rfl
theorem hn198 : (ynT 198).name = "debtBehind" := rfl
theorem tb198 : ∀ pc, TBX PP ynT yhT 198 pc := tbN rfl
theorem hb199 : ybT 199 = cX6_greater := rfl
theorem ho199 : (ynT 199).cls = "BallotBusModel" := rfl
theorem hn199 : (ynT 199).name = "greater" := rfl
theorem tb199 : ∀ pc, TBX PP ynT yhT 199 pc := tbN rfl
theorem hb200 : ybT 200 = cX6_vetoes := rfl
theorem ho200 : (ynT 200).cls = "BallotBusModel" := rfl
theorem hn200 : (ynT 200).name = "vetoes" := rfl
theorem tb200 : ∀ pc, TBX PP ynT yhT 200 pc := tbN rfl
theorem hb201 : ybT 201 = cX6_payBack := rfl
theorem ho201 : (ynT 201).cls = "BallotBusModel" := rfl
theorem hn201 : (ynT 201).name = "payBack" := rfl
theorem tb201 : ∀ pc, TBX PP ynT yhT 201 pc := tbN rfl
theorem hb202 : ybT 202 = cX6_setTally := rfl
theorem ho202 : (ynT 202).cls = "BallotBusModel" := rfl
theorem hn202 : (ynT 202).name = "setTally" := rfl
theorem tb202 : ∀ pc, TBX PP ynT yhT 202 pc := tbN rfl
theorem hb203 : ybT 203 = cX6_isTally := rfl
theorem ho203 : (ynT 203).cls = "BallotBusModel" := rfl
theorem hn203 : (ynT 203).name = "isTally" := rfl
theorem tb203 : ∀ pc, TBX PP ynT yhT 203 pc := tbN rfl
theorem hb204 : ybT 204 = cX6_puts := rfl
theorem ho204 : (ynT 204).cls = "BallotBusModel" := rfl
theorem hn204 : (ynT 204).name = "puts" := rfl
theorem tb204 : ∀ pc, TBX PP ynT yhT 204 pc := tbN rfl
theorem hb205 : ybT 205 = cX6_setManner := rfl
theorem ho205 : (ynT 205).cls = "BallotBusModel" := rfl
theorem hn205 : (ynT 205).name = "setManner" := rfl
theorem tb205 : ∀ pc, TBX PP ynT yhT 205 pc := tbN rfl
theorem hb206 : ybT 206 = cX6_count := rfl
theorem ho206 : (ynT 206).cls = "BallotBusModel" := rfl
theorem hn206 : (ynT 206).name = "count" := rfl
theorem tb206 : ∀ pc, TBX PP ynT yhT 206 pc := tbN rfl
theorem hb207 : ybT 207 = cX6_waiting := rfl
theorem ho207 : (ynT 207).cls = "BallotBusModel" := rfl
theorem hn207 : (ynT 207).name = "waiting" := rfl
theorem tb207 : ∀ pc, TBX PP ynT yhT 207 pc := tbN rfl
theorem hb208 : ybT 208 = cX6_asker := rfl
theorem ho208 : (ynT 208).cls = "BallotBusModel" := rfl
theorem hn208 : (ynT 208).name = "asker" := rfl
theorem tb208 : ∀ pc, TBX PP ynT yhT 208 pc := tbN rfl
theorem hb209 : ybT 209 = cX6_waitingOf := rfl
theorem ho209 : (ynT 209).cls = "BallotBusModel" := rfl
theorem hn209 : (ynT 209).name = "waitingOf" := rfl
theorem tb209 : ∀ pc, TBX PP ynT yhT 209 pc := tbN rfl
theorem hb210 : ybT 210 = cX6_kind := rfl
theorem ho210 : (ynT 210).cls = "BallotBusModel" := rfl
theorem hn210 : (ynT 210).name = "kind" := rfl
theorem tb210 : ∀ pc, TBX PP ynT yhT 210 pc := tbN rfl
theorem hb211 : ybT 211 = cX6_waitingIn := rfl
theorem ho211 : (ynT 211).cls = "BallotBusModel" := rfl
theorem hn211 : (ynT 211).name = "waitingIn" := rfl
theorem tb211 : ∀ pc, TBX PP ynT yhT 211 pc := tbN rfl
theorem hb212 : ybT 212 = cX6_placeInOrder := rfl
theorem ho212 : (ynT 212).cls = "BallotBusModel" := rfl
theorem hn212 : (ynT 212).name = "placeInOrder" := rfl
theorem tb212 : ∀ pc, TBX PP ynT yhT 212 pc := tbN rfl
theorem hb213 : ybT 213 = cX6_serialAt := rfl
theorem ho213 : (ynT 213).cls = "BallotBusModel" := rfl
theorem hn213 : (ynT 213).name = "serialAt" := rfl
theorem tb213 : ∀ pc, TBX PP ynT yhT 213 pc := tbN rfl
theorem hb214 : ybT 214 = cX6_ballot := rfl
theorem ho214 : (ynT 214).cls = "BallotBusModel" := rfl
theorem hn214 : (ynT 214).name = "ballot" := rfl
theorem tb214 : ∀ pc, TBX PP ynT yhT 214 pc := tbN rfl
theorem hb215 : ybT 215 = cX6_order := rfl
theorem ho215 : (ynT 215).cls = "BallotBusModel" := rfl
theorem hn215 : (ynT 215).name = "order" := rfl
theorem tb215 : ∀ pc, TBX PP ynT yhT 215 pc := tbN rfl
theorem hb216 : ybT 216 = cX6_request := rfl
theorem ho216 : (ynT 216).cls = "BallotBusModel" := rfl
theorem hn216 : (ynT 216).name = "request" := rfl
theorem tb216 : ∀ pc, TBX PP ynT yhT 216 pc := tbN rfl
theorem hb217 : ybT 217 = cX6_line := rfl
theorem ho217 : (ynT 217).cls = "BallotBusModel" := rfl
theorem hn217 : (ynT 217).name = "line" := rfl
theorem tb217 : ∀ pc, TBX PP ynT yhT 217 pc := tbN rfl
theorem hb218 : ybT 218 = cX6_progress := rfl
theorem ho218 : (ynT 218).cls = "BallotBusModel" := rfl
theorem hn218 : (ynT 218).name = "progress" := rfl
theorem tb218 : ∀ pc, TBX PP ynT yhT 218 pc := tbN rfl
theorem hb219 : ybT 219 = cX6_answer := rfl
theorem ho219 : (ynT 219).cls = "BallotBusModel" := rfl
theorem hn219 : (ynT 219).name = "answer" := rfl
theorem tb219 : ∀ pc, TBX PP ynT yhT 219 pc := tbN rfl
theorem hb220 : ybT 220 = cX6_points := rfl
theorem ho220 : (ynT 220).cls = "BallotBusModel" := rfl
theorem hn220 : (ynT 220).name = "points" := rfl
theorem tb220 : ∀ pc, TBX PP ynT yhT 220 pc := tbN rfl
theorem hb221 : ybT 221 = cX6_firsts := rfl
theorem ho221 : (ynT 221).cls = "BallotBusModel" := rfl
theorem hn221 : (ynT 221).name = "firsts" := rfl
theorem tb221 : ∀ pc, TBX PP ynT yhT 221 pc := tbN rfl
theorem hb222 : ybT 222 = cX6_beats := rfl
theorem ho222 : (ynT 222).cls = "BallotBusModel" := rfl
theorem hn222 : (ynT 222).name = "beats" := rfl
theorem tb222 : ∀ pc, TBX PP ynT yhT 222 pc := tbN rfl
theorem hb223 : ybT 223 = cX6_wins := rfl
theorem ho223 : (ynT 223).cls = "BallotBusModel" := rfl
theorem hn223 : (ynT 223).name = "wins" := rfl
theorem tb223 : ∀ pc, TBX PP ynT yhT 223 pc := tbN rfl
theorem hb224 : ybT 224 = cX6_champion := rfl
theorem ho224 : (ynT 224).cls = "BallotBusModel" := rfl
theorem hn224 : (ynT 224).name = "champion" := rfl
theorem tb224 : ∀ pc, TBX PP ynT yhT 224 pc := tbN rfl
theorem hb225 : ybT 225 = cX6_voted := rfl
theorem ho225 : (ynT 225).cls = "BallotBusModel" := rfl
theorem hn225 : (ynT 225).name = "voted" := rfl
theorem tb225 : ∀ pc, TBX PP ynT yhT 225 pc := tbN rfl
theorem hb226 : ybT 226 = cX6_votes := rfl
theorem ho226 : (ynT 226).cls = "BallotBusModel" := rfl
theorem hn226 : (ynT 226).name = "votes" := rfl
theorem tb226 : ∀ pc, TBX PP ynT yhT 226 pc := tbN rfl
theorem hb227 : ybT 227 = cX6_differences := rfl
theorem ho227 : (ynT 227).cls = "BallotBusModel" := rfl
theorem hn227 : (ynT 227).name = "differences" := rfl
theorem tb227 : ∀ pc, TBX PP ynT yhT 227 pc := tbN rfl
theorem hb228 : ybT 228 = cX6_placeInOutcome := rfl
theorem ho228 : (ynT 228).cls = "BallotBusModel" := rfl
theorem hn228 : (ynT 228).name = "placeInOutcome" := rfl
theorem tb228 : ∀ pc, TBX PP ynT yhT 228 pc := tbN rfl
theorem hb229 : ybT 229 = cX6_isDecisive := rfl
theorem ho229 : (ynT 229).cls = "BallotBusModel" := rfl
theorem hn229 : (ynT 229).name = "isDecisive" := rfl
theorem tb229 : ∀ pc, TBX PP ynT yhT 229 pc := tbN rfl
theorem hb230 : ybT 230 = cX6_distance := rfl
theorem ho230 : (ynT 230).cls = "BallotBusModel" := rfl
theorem hn230 : (ynT 230).name = "distance" := rfl
theorem tb230 : ∀ pc, TBX PP ynT yhT 230 pc := tbN rfl
theorem hb231 : ybT 231 = cX6_pairsApart := rfl
theorem ho231 : (ynT 231).cls = "BallotBusModel" := rfl
theorem hn231 : (ynT 231).name = "pairsApart" := rfl
theorem tb231 : ∀ pc, TBX PP ynT yhT 231 pc := tbN rfl
theorem hb232 : ybT 232 = cX6_middle := rfl
theorem ho232 : (ynT 232).cls = "BallotBusModel" := rfl
theorem hn232 : (ynT 232).name = "middle" := rfl
theorem tb232 : ∀ pc, TBX PP ynT yhT 232 pc := tbN rfl
theorem hb233 : ybT 233 = cX6_codes := rfl
theorem ho233 : (ynT 233).cls = "BallotBusModel" := rfl
theorem hn233 : (ynT 233).name = "codes" := rfl
theorem tb233 : ∀ pc, TBX PP ynT yhT 233 pc := tbN rfl
theorem hb234 : ybT 234 = cX6_sumApart := rfl
theorem ho234 : (ynT 234).cls = "BallotBusModel" := rfl
theorem hn234 : (ynT 234).name = "sumApart" := rfl
theorem tb234 : ∀ pc, TBX PP ynT yhT 234 pc := tbN rfl
theorem hb235 : ybT 235 = cX6_meanWait := rfl
theorem ho235 : (ynT 235).cls = "BallotBusModel" := rfl
theorem hn235 : (ynT 235).name = "meanWait" := rfl
theorem tb235 : ∀ pc, TBX PP ynT yhT 235 pc := tbN rfl
theorem hb236 : ybT 236 = cX6_share := rfl
theorem ho236 : (ynT 236).cls = "BallotBusModel" := rfl
theorem hn236 : (ynT 236).name = "share" := rfl
theorem tb236 : ∀ pc, TBX PP ynT yhT 236 pc := tbN rfl
theorem hb237 : ybT 237 = cX6_debts := rfl
theorem ho237 : (ynT 237).cls = "BallotBusModel" := rfl
theorem hn237 : (ynT 237).name = "debts" := rfl
theorem tb237 : ∀ pc, TBX PP ynT yhT 237 pc := tbN rfl
theorem hb238 : ybT 238 = cX6_richest := rfl
theorem ho238 : (ynT 238).cls = "BallotBusModel" := rfl
theorem hn238 : (ynT 238).name = "richest" := rfl
theorem tb238 : ∀ pc, TBX PP ynT yhT 238 pc := tbN rfl
theorem hb239 : ybT 239 = cX6_worthOf := rfl
theorem ho239 : (ynT 239).cls = "BallotBusModel" := rfl
theorem hn239 : (ynT 239).name = "worthOf" := rfl
theorem tb239 : ∀ pc, TBX PP ynT yhT 239 pc := tbN rfl
theorem hb240 : ybT 240 = cX6_answeredIn := rfl
theorem ho240 : (ynT 240).cls = "BallotBusModel" := rfl
theorem hn240 : (ynT 240).name = "answeredIn" := rfl
theorem tb240 : ∀ pc, TBX PP ynT yhT 240 pc := tbN rfl
theorem hb241 : ybT 241 = cX6_tries := rfl
theorem ho241 : (ynT 241).cls = "BallotBusModel" := rfl
theorem hn241 : (ynT 241).name = "tries" := rfl
theorem tb241 : ∀ pc, TBX PP ynT yhT 241 pc := tbN rfl
theorem hb242 : ybT 242 = cX6_laysBack := rfl
theorem ho242 : (ynT 242).cls = "BallotBusModel" := rfl
theorem hn242 : (ynT 242).name = "laysBack" := rfl
theorem tb242 : ∀ pc, TBX PP ynT yhT 242 pc := tbN rfl
theorem hb243 : ybT 243 = cX6_answersIn := rfl
theorem ho243 : (ynT 243).cls = "BallotBusModel" := rfl
theorem hn243 : (ynT 243).name = "answersIn" := rfl
theorem tb243 : ∀ pc, TBX PP ynT yhT 243 pc := tbN rfl
theorem hb244 : ybT 244 = cX6_wouldAnswer := rfl
theorem ho244 : (ynT 244).cls = "BallotBusModel" := rfl
theorem hn244 : (ynT 244).name = "wouldAnswer" := rfl
theorem tb244 : ∀ pc, TBX PP ynT yhT 244 pc := tbN rfl
theorem hb245 : ybT 245 = cX6_bestVeto := rfl
theorem ho245 : (ynT 245).cls = "BallotBusModel" := rfl
theorem hn245 : (ynT 245).name = "bestVeto" := rfl
theorem tb245 : ∀ pc, TBX PP ynT yhT 245 pc := tbN rfl
theorem hb246 : ybT 246 = cX6_vetoBrings := rfl
theorem ho246 : (ynT 246).cls = "BallotBusModel" := rfl
theorem hn246 : (ynT 246).name = "vetoBrings" := rfl
theorem tb246 : ∀ pc, TBX PP ynT yhT 246 pc := tbN rfl
theorem hb247 : ybT 247 = cX6_bestTally := rfl
theorem ho247 : (ynT 247).cls = "BallotBusModel" := rfl
theorem hn247 : (ynT 247).name = "bestTally" := rfl
theorem tb247 : ∀ pc, TBX PP ynT yhT 247 pc := tbN rfl
theorem hb248 : ybT 248 = cX6_bestBallot := rfl
theorem ho248 : (ynT 248).cls = "BallotBusModel" := rfl
theorem hn248 : (ynT 248).name = "bestBallot" := rfl
theorem tb248 : ∀ pc, TBX PP ynT yhT 248 pc := tbN rfl
theorem hb249 : ybT 249 = cX6_silentIn := rfl
theorem ho249 : (ynT 249).cls = "BallotBusModel" := rfl
theorem hn249 : (ynT 249).name = "silentIn" := rfl
theorem tb249 : ∀ pc, TBX PP ynT yhT 249 pc := tbN rfl
theorem hb250 : ybT 250 = cX6_emptyIn := rfl
theorem ho250 : (ynT 250).cls = "BallotBusModel" := rfl
theorem hn250 : (ynT 250).name = "emptyIn" := rfl
theorem tb250 : ∀ pc, TBX PP ynT yhT 250 pc := tbN rfl
theorem hb251 : ybT 251 = cX6_feed := rfl
theorem ho251 : (ynT 251).cls = "BallotBusModel" := rfl
theorem hn251 : (ynT 251).name = "feed" := rfl
theorem tb251 : ∀ pc, TBX PP ynT yhT 251 pc := tbN rfl
theorem hb252 : ybT 252 = cX6_truncate := rfl
theorem ho252 : (ynT 252).cls = "BallotBusModel" := rfl
theorem hn252 : (ynT 252).name = "truncate" := rfl
theorem tb252 : ∀ pc, TBX PP ynT yhT 252 pc := tbN rfl
theorem hb253 : ybT 253 = cX6_parse := rfl
theorem ho253 : (ynT 253).cls = "BallotBusModel" := rfl
theorem hn253 : (ynT 253).name = "parse" := rfl
theorem tb253 : ∀ pc, TBX PP ynT yhT 253 pc := tbN rfl
theorem hb254 : ybT 254 = cX6_next := rfl
theorem ho254 : (ynT 254).cls = "BallotBusModel" := rfl
theorem hn254 : (ynT 254).name = "next" := rfl
theorem tb254 : ∀ pc, TBX PP ynT yhT 254 pc := tbN rfl
theorem hb255 : ybT 255 = cX6_here := rfl
theorem ho255 : (ynT 255).cls = "BallotBusModel" := rfl
theorem hn255 : (ynT 255).name = "here" := rfl
theorem tb255 : ∀ pc, TBX PP ynT yhT 255 pc := tbN rfl
theorem hb256 : ybT 256 = cX6_isLetter := rfl
theorem ho256 : (ynT 256).cls = "BallotBusModel" := rfl
theorem hn256 : (ynT 256).name = "isLetter" := rfl
theorem tb256 : ∀ pc, TBX PP ynT yhT 256 pc := tbN rfl
theorem hb257 : ybT 257 = cX6_wordHere := rfl
theorem ho257 : (ynT 257).cls = "BallotBusModel" := rfl
theorem hn257 : (ynT 257).name = "wordHere" := rfl
theorem tb257 : ∀ pc, TBX PP ynT yhT 257 pc := tbN rfl
theorem hb258 : ybT 258 = cX6_fine := rfl
theorem ho258 : (ynT 258).cls = "BallotBusModel" := rfl
theorem hn258 : (ynT 258).name = "fine" := rfl
theorem tb258 : ∀ pc, TBX PP ynT yhT 258 pc := tbN rfl
theorem hb259 : ybT 259 = cX6_statement := rfl
theorem ho259 : (ynT 259).cls = "BallotBusModel" := rfl
theorem hn259 : (ynT 259).name = "statement" := rfl
theorem tb259 : ∀ pc, TBX PP ynT yhT 259 pc := tbN rfl
theorem hb260 : ybT 260 = cX6_isWord := rfl
theorem ho260 : (ynT 260).cls = "BallotBusModel" := rfl
theorem hn260 : (ynT 260).name = "isWord" := rfl
theorem tb260 : ∀ pc, TBX PP ynT yhT 260 pc := tbN rfl
theorem hb261 : ybT 261 = cX6_readsClass := rfl
theorem ho261 : (ynT 261).cls = "BallotBusModel" := rfl
theorem hn261 : (ynT 261).name = "readsClass" := rfl
theorem tb261 : ∀ pc, TBX PP ynT yhT 261 pc := tbN rfl
theorem hb262 : ybT 262 = cX6_needs := rfl
theorem ho262 : (ynT 262).cls = "BallotBusModel" := rfl
theorem hn262 : (ynT 262).name = "needs" := rfl
theorem tb262 : ∀ pc, TBX PP ynT yhT 262 pc := tbN rfl
theorem hb263 : ybT 263 = cX6_goOn := rfl
theorem ho263 : (ynT 263).cls = "BallotBusModel" := rfl
theorem hn263 : (ynT 263).name = "goOn" := rfl
theorem tb263 : ∀ pc, TBX PP ynT yhT 263 pc := tbN rfl
theorem hb264 : ybT 264 = cX6_fresh := rfl
theorem ho264 : (ynT 264).cls = "BallotBusModel" := rfl
theorem hn264 : (ynT 264).name = "fresh" := rfl
theorem tb264 : ∀ pc, TBX PP ynT yhT 264 pc := tbN rfl
theorem hb265 : ybT 265 = cX6_isName := rfl
theorem ho265 : (ynT 265).cls = "BallotBusModel" := rfl
theorem hn265 : (ynT 265).name = "isName" := rfl
theorem tb265 : ∀ pc, TBX PP ynT yhT 265 pc := tbN rfl
theorem hb266 : ybT 266 = cX6_indexOf_2 := rfl
theorem ho266 : (ynT 266).cls = "BallotBusModel" := rfl
theorem hn266 : (ynT 266).name = "indexOf" := rfl
theorem tb266 : ∀ pc, TBX PP ynT yhT 266 pc := tbN rfl
theorem hb267 : ybT 267 = cX6_readsAsker := rfl
theorem ho267 : (ynT 267).cls = "BallotBusModel" := rfl
theorem hn267 : (ynT 267).name = "readsAsker" := rfl
theorem tb267 : ∀ pc, TBX PP ynT yhT 267 pc := tbN rfl
theorem hb268 : ybT 268 = cX6_number := rfl
theorem ho268 : (ynT 268).cls = "BallotBusModel" := rfl
theorem hn268 : (ynT 268).name = "number" := rfl
theorem tb268 : ∀ pc, TBX PP ynT yhT 268 pc := tbN rfl
theorem hb269 : ybT 269 = cX6_readsAsk := rfl
theorem ho269 : (ynT 269).cls = "BallotBusModel" := rfl
theorem hn269 : (ynT 269).name = "readsAsk" := rfl
theorem tb269 : ∀ pc, TBX PP ynT yhT 269 pc := tbN rfl
theorem hb270 : ybT 270 = cX6_known := rfl
theorem ho270 : (ynT 270).cls = "BallotBusModel" := rfl
theorem hn270 : (ynT 270).name = "known" := rfl
theorem tb270 : ∀ pc, TBX PP ynT yhT 270 pc := tbN rfl
theorem hb271 : ybT 271 = cX6_readsOnce := rfl
theorem ho271 : (ynT 271).cls = "BallotBusModel" := rfl
theorem hn271 : (ynT 271).name = "readsOnce" := rfl
theorem tb271 : ∀ pc, TBX PP ynT yhT 271 pc := tbN rfl
theorem hb272 : ybT 272 = cX6_readsTally := rfl
theorem ho272 : (ynT 272).cls = "BallotBusModel" := rfl
theorem hn272 : (ynT 272).name = "readsTally" := rfl
theorem tb272 : ∀ pc, TBX PP ynT yhT 272 pc := tbN rfl
theorem hb273 : ybT 273 = cX6_readsNumber := rfl
theorem ho273 : (ynT 273).cls = "BallotBusModel" := rfl
theorem hn273 : (ynT 273).name = "readsNumber" := rfl
theorem tb273 : ∀ pc, TBX PP ynT yhT 273 pc := tbN rfl
theorem hb274 : ybT 274 = cX6_errorCode := rfl
theorem ho274 : (ynT 274).cls = "BallotBusModel" := rfl
theorem hn274 : (ynT 274).name = "errorCode" := rfl
theorem tb274 : ∀ pc, TBX PP ynT yhT 274 pc := tbN rfl
theorem hb275 : ybT 275 = cX6_errorOffset := rfl
theorem ho275 : (ynT 275).cls = "BallotBusModel" := rfl
theorem hn275 : (ynT 275).name = "errorOffset" := rfl
theorem tb275 : ∀ pc, TBX PP ynT yhT 275 pc := tbN rfl
theorem hb276 : ybT 276 = cX6_find := rfl
theorem ho276 : (ynT 276).cls = "BallotBusModel" := rfl
theorem hn276 : (ynT 276).name = "find" := rfl
theorem tb276 : ∀ pc, TBX PP ynT yhT 276 pc := tbN rfl
theorem hb277 : ybT 277 = cX6_printOrder := rfl
theorem ho277 : (ynT 277).cls = "BallotBusModel" := rfl
theorem hn277 : (ynT 277).name = "printOrder" := rfl
theorem tb277 : ∀ pc, TBX PP ynT yhT 277 pc := tbN rfl
theorem hb278 : ybT 278 = cX6_says := rfl
theorem ho278 : (ynT 278).cls = "BallotBusModel" := rfl
theorem hn278 : (ynT 278).name = "says" := rfl
theorem tb278 : ∀ pc, TBX PP ynT yhT 278 pc := tbN rfl
theorem hb279 : ybT 279 = cX6_saysName := rfl
theorem ho279 : (ynT 279).cls = "BallotBusModel" := rfl
theorem hn279 : (ynT 279).name = "saysName" := rfl
theorem tb279 : ∀ pc, TBX PP ynT yhT 279 pc := tbN rfl
theorem hb280 : ybT 280 = cX6_outputByte := rfl
theorem ho280 : (ynT 280).cls = "BallotBusModel" := rfl
theorem hn280 : (ynT 280).name = "outputByte" := rfl
theorem tb280 : ∀ pc, TBX PP ynT yhT 280 pc := tbN rfl
theorem hb281 : ybT 281 = cX7_init := rfl
theorem ho281 : (ynT 281).cls = "BallotBus$Parser" := rfl
theorem hn281 : (ynT 281).name = "<init>" := rfl
theorem tb281 : ∀ pc, TBX PP ynT yhT 281 pc := tbN rfl
theorem hb282 : ybT 282 = cX7_advance := rfl
theorem ho282 : (ynT 282).cls = "BallotBus$Parser" := rfl
theorem hn282 : (ynT 282).name = "advance" := rfl
theorem tb282 : ∀ pc, TBX PP ynT yhT 282 pc := tbN rfl
theorem hb283 : ybT 283 = cX7_byteAt := rfl
theorem ho283 : (ynT 283).cls = "BallotBus$Parser" := rfl
theorem hn283 : (ynT 283).name = "byteAt" := rfl
theorem tb283 : ∀ pc, TBX PP ynT yhT 283 pc := tbN rfl
theorem hb284 : ybT 284 = cX7_parse := rfl
theorem ho284 : (ynT 284).cls = "BallotBus$Parser" := rfl
theorem hn284 : (ynT 284).name = "parse" := rfl
theorem tb284 : ∀ pc, TBX PP ynT yhT 284 pc := tbN rfl
theorem hb285 : ybT 285 = cX7_statement := rfl
theorem ho285 : (ynT 285).cls = "BallotBus$Parser" := rfl
theorem hn285 : (ynT 285).name = "statement" := rfl
theorem tb285 : ∀ pc, TBX PP ynT yhT 285 pc := tbN rfl
theorem hb286 : ybT 286 = cX7_readClass := rfl
theorem ho286 : (ynT 286).cls = "BallotBus$Parser" := rfl
theorem hn286 : (ynT 286).name = "readClass" := rfl
theorem tb286 : ∀ pc, TBX PP ynT yhT 286 pc := tbN rfl
theorem hb287 : ybT 287 = cX7_require := rfl
theorem ho287 : (ynT 287).cls = "BallotBus$Parser" := rfl
theorem hn287 : (ynT 287).name = "require" := rfl
theorem tb287 : ∀ pc, TBX PP ynT yhT 287 pc := tbN rfl
theorem hb288 : ybT 288 = cX7_newName := rfl
theorem ho288 : (ynT 288).cls = "BallotBus$Parser" := rfl
theorem hn288 : (ynT 288).name = "newName" := rfl
theorem tb288 : ∀ pc, TBX PP ynT yhT 288 pc := tbN rfl
theorem hb289 : ybT 289 = cX7_name := rfl
theorem ho289 : (ynT 289).cls = "BallotBus$Parser" := rfl
theorem hn289 : (ynT 289).name = "name" := rfl
theorem tb289 : ∀ pc, TBX PP ynT yhT 289 pc := tbN rfl
theorem hb290 : ybT 290 = cX7_accept := rfl
theorem ho290 : (ynT 290).cls = "BallotBus$Parser" := rfl
theorem hn290 : (ynT 290).name = "accept" := rfl
theorem tb290 : ∀ pc, TBX PP ynT yhT 290 pc := tbN rfl
theorem hb291 : ybT 291 = cX7_readAsker := rfl
theorem ho291 : (ynT 291).cls = "BallotBus$Parser" := rfl
theorem hn291 : (ynT 291).name = "readAsker" := rfl
theorem tb291 : ∀ pc, TBX PP ynT yhT 291 pc := tbN rfl
theorem hb292 : ybT 292 = cX7_number := rfl
theorem ho292 : (ynT 292).cls = "BallotBus$Parser" := rfl
theorem hn292 : (ynT 292).name = "number" := rfl
theorem tb292 : ∀ pc, TBX PP ynT yhT 292 pc := tbN rfl
theorem hb293 : ybT 293 = cX7_readAsk := rfl
theorem ho293 : (ynT 293).cls = "BallotBus$Parser" := rfl
theorem hn293 : (ynT 293).name = "readAsk" := rfl
theorem tb293 : ∀ pc, TBX PP ynT yhT 293 pc := tbN rfl
theorem hb294 : ybT 294 = cX7_oldName := rfl
theorem ho294 : (ynT 294).cls = "BallotBus$Parser" := rfl
theorem hn294 : (ynT 294).name = "oldName" := rfl
theorem tb294 : ∀ pc, TBX PP ynT yhT 294 pc := tbN rfl
theorem hb295 : ybT 295 = cX7_readTally := rfl
theorem ho295 : (ynT 295).cls = "BallotBus$Parser" := rfl
theorem hn295 : (ynT 295).name = "readTally" := rfl
theorem tb295 : ∀ pc, TBX PP ynT yhT 295 pc := tbN rfl
theorem hb296 : ybT 296 = cX7_only := rfl
theorem ho296 : (ynT 296).cls = "BallotBus$Parser" := rfl
theorem hn296 : (ynT 296).name = "only" := rfl
theorem tb296 : ∀ pc, TBX PP ynT yhT 296 pc := tbN rfl
theorem hb297 : ybT 297 = cX7_single := rfl
theorem ho297 : (ynT 297).cls = "BallotBus$Parser" := rfl
theorem hn297 : (ynT 297).name = "single" := rfl
theorem tb297 : ∀ pc, TBX PP ynT yhT 297 pc := tbN rfl
theorem hb298 : ybT 298 = cX8_init := rfl
theorem ho298 : (ynT 298).cls = "BallotBus$ParseException" := rfl
theorem hn298 : (ynT 298).name = "<init>" := rfl
theorem tb298 : ∀ pc, TBX PP ynT yhT 298 pc := tbN rfl
theorem hb299 : ybT 299 = cX9_init := rfl
theorem ho299 : (ynT 299).cls = "BallotBus$Request" := rfl
theorem hn299 : (ynT 299).name = "<init>" := rfl
theorem tb299 : ∀ pc, TBX PP ynT yhT 299 pc := tbN rfl
theorem hb300 : ybT 300 = cX10_compare := rfl
theorem ho300 : (ynT 300).cls = "BallotBus$ByMeasure" := rfl
theorem hn300 : (ynT 300).name = "compare" := rfl
theorem tb300 : ∀ pc, TBX PP ynT yhT 300 pc := tbN rfl
theorem hb301 : ybT 301 = cX10_compare_2 := rfl
theorem ho301 : (ynT 301).cls = "BallotBus$ByMeasure" := rfl
theorem hn301 : (ynT 301).name = "compare" := rfl
theorem tb301 : ∀ pc, TBX PP ynT yhT 301 pc := tbN rfl
theorem hb302 : ybT 302 = cX10_init := rfl
theorem ho302 : (ynT 302).cls = "BallotBus$ByMeasure" := rfl
theorem hn302 : (ynT 302).name = "<init>" := rfl
theorem tb302 : ∀ pc, TBX PP ynT yhT 302 pc := tbN rfl
theorem hb303 : ybT 303 = cX11_more := rfl
theorem ho303 : (ynT 303).cls = "BallotBus$Tally$3" := rfl
theorem hn303 : (ynT 303).name = "more" := rfl
theorem tb303 : ∀ pc, TBX PP ynT yhT 303 pc := tbN rfl
theorem hb304 : ybT 304 = cX12_more := rfl
theorem ho304 : (ynT 304).cls = "BallotBus$Tally$1" := rfl
theorem hn304 : (ynT 304).name = "more" := rfl
theorem tb304 : ∀ pc, TBX PP ynT yhT 304 pc := tbN rfl
theorem hb305 : ybT 305 = cX13_more := rfl
theorem ho305 : (ynT 305).cls = "BallotBus$Tally$2" := rfl
theorem hn305 : (ynT 305).name = "more" := rfl
theorem tb305 : ∀ pc, TBX PP ynT yhT 305 pc := tbN rfl
theorem hb306 : ybT 306 = cJ0_compareTo := rfl
theorem ho306 : (ynT 306).cls = "java/lang/Enum" := rfl
theorem hn306 : (ynT 306).name = "compareTo" := rfl
theorem tb306 : ∀ pc, TBX PP ynT yhT 306 pc := tbN rfl
theorem hb307 : ybT 307 = cJ0_compareTo_2 := rfl
theorem ho307 : (ynT 307).cls = "java/lang/Enum" := rfl
theorem hn307 : (ynT 307).name = "compareTo" := rfl
theorem tb307 : ∀ pc, TBX PP ynT yhT 307 pc := tbN rfl
theorem hb308 : ybT 308 = cJ0_getDeclaringClass := rfl
theorem ho308 : (ynT 308).cls = "java/lang/Enum" := rfl
theorem hn308 : (ynT 308).name = "getDeclaringClass" := rfl
theorem tb308 : ∀ pc, TBX PP ynT yhT 308 pc := tbN rfl
theorem hb309 : ybT 309 = cJ0_equals := rfl
theorem ho309 : (ynT 309).cls = "java/lang/Enum" := rfl
theorem hn309 : (ynT 309).name = "equals" := rfl
theorem tb309 : ∀ pc, TBX PP ynT yhT 309 pc := tbN rfl
theorem hb310 : ybT 310 = cJ0_ordinal := rfl
theorem ho310 : (ynT 310).cls = "java/lang/Enum" := rfl
theorem hn310 : (ynT 310).name = "ordinal" := rfl
theorem tb310 : ∀ pc, TBX PP ynT yhT 310 pc := tbN rfl
theorem hb311 : ybT 311 = cJ1_init := rfl
theorem ho311 : (ynT 311).cls = "java/util/AbstractCollection" := rfl
theorem hn311 : (ynT 311).name = "<init>" := rfl
theorem tb311 : ∀ pc, TBX PP ynT yhT 311 pc := tbN rfl
theorem hb312 : ybT 312 = cJ2_init := rfl
theorem ho312 : (ynT 312).cls = "java/util/AbstractList" := rfl
theorem hn312 : (ynT 312).name = "<init>" := rfl
theorem tb312 : ∀ pc, TBX PP ynT yhT 312 pc := tbN rfl
theorem hb313 : ybT 313 = cJ3_init := rfl
theorem ho313 : (ynT 313).cls = "java/util/ArrayList" := rfl
theorem hn313 : (ynT 313).name = "<init>" := rfl
theorem tb313 : ∀ pc, TBX PP ynT yhT 313 pc := tbN rfl
theorem hb314 : ybT 314 = cJ3_add := rfl
theorem ho314 : (ynT 314).cls = "java/util/ArrayList" := rfl
theorem hn314 : (ynT 314).name = "add" := rfl
theorem tb314 : ∀ pc, TBX PP ynT yhT 314 pc := tbN rfl
theorem hb315 : ybT 315 = cJ3_add_2 := rfl
theorem ho315 : (ynT 315).cls = "java/util/ArrayList" := rfl
theorem hn315 : (ynT 315).name = "add" := rfl
theorem tb315 : ∀ pc, TBX PP ynT yhT 315 pc := tbN rfl
theorem hb316 : ybT 316 = cJ3_grow := rfl
theorem ho316 : (ynT 316).cls = "java/util/ArrayList" := rfl
theorem hn316 : (ynT 316).name = "grow" := rfl
theorem tb316 : ∀ pc, TBX PP ynT yhT 316 pc := tbN rfl
theorem hb317 : ybT 317 = cJ3_grow_2 := rfl
theorem ho317 : (ynT 317).cls = "java/util/ArrayList" := rfl
theorem hn317 : (ynT 317).name = "grow" := rfl
theorem tb317 : ∀ pc, TBX PP ynT yhT 317 pc := tbN rfl
theorem hb318 : ybT 318 = cJ3_addAll := rfl
theorem ho318 : (ynT 318).cls = "java/util/ArrayList" := rfl
theorem hn318 : (ynT 318).name = "addAll" := rfl
theorem tb318 : ∀ pc, TBX PP ynT yhT 318 pc := tbN rfl
theorem hb319 : ybT 319 = cJ3_toArray := rfl
theorem ho319 : (ynT 319).cls = "java/util/ArrayList" := rfl
theorem hn319 : (ynT 319).name = "toArray" := rfl
theorem tb319 : ∀ pc, TBX PP ynT yhT 319 pc := tbN rfl
theorem hb320 : ybT 320 = cJ3_size := rfl
theorem ho320 : (ynT 320).cls = "java/util/ArrayList" := rfl
theorem hn320 : (ynT 320).name = "size" := rfl
theorem tb320 : ∀ pc, TBX PP ynT yhT 320 pc := tbN rfl
theorem hb321 : ybT 321 = cJ3_contains := rfl
theorem ho321 : (ynT 321).cls = "java/util/ArrayList" := rfl
theorem hn321 : (ynT 321).name = "contains" := rfl
theorem tb321 : ∀ pc, TBX PP ynT yhT 321 pc := tbN rfl
theorem hb322 : ybT 322 = cJ3_indexOf := rfl
theorem ho322 : (ynT 322).cls = "java/util/ArrayList" := rfl
theorem hn322 : (ynT 322).name = "indexOf" := rfl
theorem tb322 : ∀ pc, TBX PP ynT yhT 322 pc := tbN rfl
theorem hb323 : ybT 323 = cJ3_indexOfRange := rfl
theorem ho323 : (ynT 323).cls = "java/util/ArrayList" := rfl
theorem hn323 : (ynT 323).name = "indexOfRange" := rfl
theorem tb323 : ∀ pc, TBX PP ynT yhT 323 pc := tbN rfl
theorem hb324 : ybT 324 = cJ3_clear := rfl
theorem ho324 : (ynT 324).cls = "java/util/ArrayList" := rfl
theorem hn324 : (ynT 324).name = "clear" := rfl
theorem tb324 : ∀ pc, TBX PP ynT yhT 324 pc := tbN rfl
theorem hb325 : ybT 325 = cJ3_get := rfl
theorem ho325 : (ynT 325).cls = "java/util/ArrayList" := rfl
theorem hn325 : (ynT 325).name = "get" := rfl
theorem tb325 : ∀ pc, TBX PP ynT yhT 325 pc := tbN rfl
theorem hb326 : ybT 326 = cJ3_elementData := rfl
theorem ho326 : (ynT 326).cls = "java/util/ArrayList" := rfl
theorem hn326 : (ynT 326).name = "elementData" := rfl
theorem tb326 : ∀ pc, TBX PP ynT yhT 326 pc := tbN rfl
theorem hb327 : ybT 327 = cJ3_remove := rfl
theorem ho327 : (ynT 327).cls = "java/util/ArrayList" := rfl
theorem hn327 : (ynT 327).name = "remove" := rfl
theorem tb327 : ∀ pc, TBX PP ynT yhT 327 pc := tbN rfl
theorem hb328 : ybT 328 = cJ3_fastRemove := rfl
theorem ho328 : (ynT 328).cls = "java/util/ArrayList" := rfl
theorem hn328 : (ynT 328).name = "fastRemove" := rfl
theorem tb328 : ∀ pc, TBX PP ynT yhT 328 pc := tbN rfl
theorem hb329 : ybT 329 = cJ3_iterator := rfl
theorem ho329 : (ynT 329).cls = "java/util/ArrayList" := rfl
theorem hn329 : (ynT 329).name = "iterator" := rfl
theorem tb329 : ∀ pc, TBX PP ynT yhT 329 pc := tbN rfl
theorem hb330 : ybT 330 = cJ3_isEmpty := rfl
theorem ho330 : (ynT 330).cls = "java/util/ArrayList" := rfl
theorem hn330 : (ynT 330).name = "isEmpty" := rfl
theorem tb330 : ∀ pc, TBX PP ynT yhT 330 pc := tbN rfl
theorem hb331 : ybT 331 = cJ4_init := rfl
theorem ho331 : (ynT 331).cls = "java/lang/AbstractStringBuilder" := rfl
theorem hn331 : (ynT 331).name = "<init>" := rfl
theorem tb331 : ∀ pc, TBX PP ynT yhT 331 pc := tbN rfl
theorem hb332 : ybT 332 = cJ4_compareTo := rfl
theorem ho332 : (ynT 332).cls = "java/lang/AbstractStringBuilder" := rfl
theorem hn332 : (ynT 332).name = "compareTo" := rfl
theorem tb332 : ∀ pc, TBX PP ynT yhT 332 pc := tbN rfl
theorem hb333 : ybT 333 = cJ4_isLatin1 := rfl
theorem ho333 : (ynT 333).cls = "java/lang/AbstractStringBuilder" := rfl
theorem hn333 : (ynT 333).name = "isLatin1" := rfl
theorem tb333 : ∀ pc, TBX PP ynT yhT 333 pc := tbN rfl
theorem hb334 : ybT 334 = cJ4_append := rfl
theorem ho334 : (ynT 334).cls = "java/lang/AbstractStringBuilder" := rfl
theorem hn334 : (ynT 334).name = "append" := rfl
theorem tb334 : ∀ pc, TBX PP ynT yhT 334 pc := tbN rfl
theorem hb335 : ybT 335 = cJ4_ensureCapacityInternal := rfl
theorem ho335 : (ynT 335).cls = "java/lang/AbstractStringBuilder" := rfl
theorem hn335 : (ynT 335).name = "ensureCapacityInternal" := rfl
theorem tb335 : ∀ pc, TBX PP ynT yhT 335 pc := tbN rfl
theorem hb336 : ybT 336 = cJ4_newCapacity := rfl
theorem ho336 : (ynT 336).cls = "java/lang/AbstractStringBuilder" := rfl
theorem hn336 : (ynT 336).name = "newCapacity" := rfl
theorem tb336 : ∀ pc, TBX PP ynT yhT 336 pc := tbN rfl
theorem hb337 : ybT 337 = cJ4_inflate := rfl
theorem ho337 : (ynT 337).cls = "java/lang/AbstractStringBuilder" := rfl
theorem hn337 : (ynT 337).name = "inflate" := rfl
theorem tb337 : ∀ pc, TBX PP ynT yhT 337 pc := tbN rfl
theorem hb338 : ybT 338 = cJ4_getValue := rfl
theorem ho338 : (ynT 338).cls = "java/lang/AbstractStringBuilder" := rfl
theorem hn338 : (ynT 338).name = "getValue" := rfl
theorem tb338 : ∀ pc, TBX PP ynT yhT 338 pc := tbN rfl
theorem hb339 : ybT 339 = cJ4_length := rfl
theorem ho339 : (ynT 339).cls = "java/lang/AbstractStringBuilder" := rfl
theorem hn339 : (ynT 339).name = "length" := rfl
theorem tb339 : ∀ pc, TBX PP ynT yhT 339 pc := tbN rfl
theorem hb340 : ybT 340 = cJ4_append_2 := rfl
theorem ho340 : (ynT 340).cls = "java/lang/AbstractStringBuilder" := rfl
theorem hn340 : (ynT 340).name = "append" := rfl
theorem tb340 : ∀ pc, TBX PP ynT yhT 340 pc := tbN rfl
theorem hb341 : ybT 341 = cJ4_append_3 := rfl
theorem ho341 : (ynT 341).cls = "java/lang/AbstractStringBuilder" := rfl
theorem hn341 : (ynT 341).name = "append" := rfl
theorem tb341 : ∀ pc, TBX PP ynT yhT 341 pc := tbN rfl
theorem hb342 : ybT 342 = cJ4_appendNull := rfl
theorem ho342 : (ynT 342).cls = "java/lang/AbstractStringBuilder" := rfl
theorem hn342 : (ynT 342).name = "appendNull" := rfl
theorem tb342 : ∀ pc, TBX PP ynT yhT 342 pc := tbN rfl
theorem hb343 : ybT 343 = cJ4_putStringAt := rfl
theorem ho343 : (ynT 343).cls = "java/lang/AbstractStringBuilder" := rfl
theorem hn343 : (ynT 343).name = "putStringAt" := rfl
theorem tb343 : ∀ pc, TBX PP ynT yhT 343 pc := tbN rfl
theorem hb344 : ybT 344 = cJ4_inflateIfNeededFor := rfl
theorem ho344 : (ynT 344).cls = "java/lang/AbstractStringBuilder" := rfl
theorem hn344 : (ynT 344).name = "inflateIfNeededFor" := rfl
theorem tb344 : ∀ pc, TBX PP ynT yhT 344 pc := tbN rfl
theorem hb345 : ybT 345 = cJ4_setLength := rfl
theorem ho345 : (ynT 345).cls = "java/lang/AbstractStringBuilder" := rfl
theorem hn345 : (ynT 345).name = "setLength" := rfl
theorem tb345 : ∀ pc, TBX PP ynT yhT 345 pc := tbN rfl
theorem hb346 : ybT 346 = cJ4_charAt := rfl
theorem ho346 : (ynT 346).cls = "java/lang/AbstractStringBuilder" := rfl
theorem hn346 : (ynT 346).name = "charAt" := rfl
theorem tb346 : ∀ pc, TBX PP ynT yhT 346 pc := tbN rfl
theorem hb347 : ybT 347 = cJ5_init := rfl
theorem ho347 : (ynT 347).cls = "java/lang/StringBuilder" := rfl
theorem hn347 : (ynT 347).name = "<init>" := rfl
theorem tb347 : ∀ pc, TBX PP ynT yhT 347 pc := tbN rfl
theorem hb348 : ybT 348 = cJ5_compareTo := rfl
theorem ho348 : (ynT 348).cls = "java/lang/StringBuilder" := rfl
theorem hn348 : (ynT 348).name = "compareTo" := rfl
theorem tb348 : ∀ pc, TBX PP ynT yhT 348 pc := tbN rfl
theorem hb349 : ybT 349 = cJ5_compareTo_2 := rfl
theorem ho349 : (ynT 349).cls = "java/lang/StringBuilder" := rfl
theorem hn349 : (ynT 349).name = "compareTo" := rfl
theorem tb349 : ∀ pc, TBX PP ynT yhT 349 pc := tbN rfl
theorem hb350 : ybT 350 = cJ5_append := rfl
theorem ho350 : (ynT 350).cls = "java/lang/StringBuilder" := rfl
theorem hn350 : (ynT 350).name = "append" := rfl
theorem tb350 : ∀ pc, TBX PP ynT yhT 350 pc := tbN rfl
theorem hb351 : ybT 351 = cJ5_toString := rfl
theorem ho351 : (ynT 351).cls = "java/lang/StringBuilder" := rfl
theorem hn351 : (ynT 351).name = "toString" := rfl
theorem tb351 : ∀ pc, TBX PP ynT yhT 351 pc := tbN rfl
theorem hb352 : ybT 352 = cJ5_length := rfl
theorem ho352 : (ynT 352).cls = "java/lang/StringBuilder" := rfl
theorem hn352 : (ynT 352).name = "length" := rfl
theorem tb352 : ∀ pc, TBX PP ynT yhT 352 pc := tbN rfl
theorem hb353 : ybT 353 = cJ5_append_2 := rfl
theorem ho353 : (ynT 353).cls = "java/lang/StringBuilder" := rfl
theorem hn353 : (ynT 353).name = "append" := rfl
theorem tb353 : ∀ pc, TBX PP ynT yhT 353 pc := tbN rfl
theorem hb354 : ybT 354 = cJ5_append_3 := rfl
theorem ho354 : (ynT 354).cls = "java/lang/StringBuilder" := rfl
theorem hn354 : (ynT 354).name = "append" := rfl
theorem tb354 : ∀ pc, TBX PP ynT yhT 354 pc := tbN rfl
theorem hb355 : ybT 355 = cJ5_setLength := rfl
theorem ho355 : (ynT 355).cls = "java/lang/StringBuilder" := rfl
theorem hn355 : (ynT 355).name = "setLength" := rfl
theorem tb355 : ∀ pc, TBX PP ynT yhT 355 pc := tbN rfl
theorem hb356 : ybT 356 = cJ5_charAt := rfl
theorem ho356 : (ynT 356).cls = "java/lang/StringBuilder" := rfl
theorem hn356 : (ynT 356).name = "charAt" := rfl
theorem tb356 : ∀ pc, TBX PP ynT yhT 356 pc := tbN rfl
theorem hb357 : ybT 357 = cJ6_compareTo := rfl
theorem ho357 : (ynT 357).cls = "java/lang/String" := rfl
theorem hn357 : (ynT 357).name = "compareTo" := rfl
theorem tb357 : ∀ pc, TBX PP ynT yhT 357 pc := tbN rfl
theorem hb358 : ybT 358 = cJ6_compareTo_2 := rfl
theorem ho358 : (ynT 358).cls = "java/lang/String" := rfl
theorem hn358 : (ynT 358).name = "compareTo" := rfl
theorem tb358 : ∀ pc, TBX PP ynT yhT 358 pc := tbN rfl
theorem hb359 : ybT 359 = cJ6_coder := rfl
theorem ho359 : (ynT 359).cls = "java/lang/String" := rfl
theorem hn359 : (ynT 359).name = "coder" := rfl
theorem tb359 : ∀ pc, TBX PP ynT yhT 359 pc := tbN rfl
theorem hb360 : ybT 360 = cJ6_checkOffset := rfl
theorem ho360 : (ynT 360).cls = "java/lang/String" := rfl
theorem hn360 : (ynT 360).name = "checkOffset" := rfl
theorem tb360 : ∀ pc, TBX PP ynT yhT 360 pc := tbN rfl
theorem hb362 : ybT 362 = cJ6_checkIndex := rfl
theorem ho362 : (ynT 362).cls = "java/lang/String" := rfl
theorem hn362 : (ynT 362).name = "checkIndex" := rfl
theorem tb362 : ∀ pc, TBX PP ynT yhT 362 pc := tbN rfl
theorem hb363 : ybT 363 = cJ6_init := rfl
theorem ho363 : (ynT 363).cls = "java/lang/String" := rfl
theorem hn363 : (ynT 363).name = "<init>" := rfl
theorem tb363 : ∀ pc, TBX PP ynT yhT 363 pc := tbN rfl
theorem hb364 : ybT 364 = cJ6_init_2 := rfl
theorem ho364 : (ynT 364).cls = "java/lang/String" := rfl
theorem hn364 : (ynT 364).name = "<init>" := rfl
theorem tb364 : ∀ pc, TBX PP ynT yhT 364 pc := tbN rfl
theorem hb366 : ybT 366 = cJ6_length := rfl
theorem ho366 : (ynT 366).cls = "java/lang/String" := rfl
theorem hn366 : (ynT 366).name = "length" := rfl
theorem tb366 : ∀ pc, TBX PP ynT yhT 366 pc := tbN rfl
theorem hb367 : ybT 367 = cJ6_getBytes := rfl
theorem ho367 : (ynT 367).cls = "java/lang/String" := rfl
theorem hn367 : (ynT 367).name = "getBytes" := rfl
theorem tb367 : ∀ pc, TBX PP ynT yhT 367 pc := tbN rfl
theorem hb368 : ybT 368 = cJ6_hashCode := rfl
theorem ho368 : (ynT 368).cls = "java/lang/String" := rfl
theorem hn368 : (ynT 368).name = "hashCode" := rfl
theorem tb368 : ∀ pc, TBX PP ynT yhT 368 pc := tbN rfl
theorem hb369 : ybT 369 = cJ6_isLatin1 := rfl
theorem ho369 : (ynT 369).cls = "java/lang/String" := rfl
theorem hn369 : (ynT 369).name = "isLatin1" := rfl
theorem tb369 : ∀ pc, TBX PP ynT yhT 369 pc := tbN rfl
theorem hb370 : ybT 370 = cJ6_equals := rfl
theorem ho370 : (ynT 370).cls = "java/lang/String" := rfl
theorem hn370 : (ynT 370).name = "equals" := rfl
theorem tb370 : ∀ pc, TBX PP ynT yhT 370 pc := tbN rfl
theorem hb371 : ybT 371 = cJ6_charAt := rfl
theorem ho371 : (ynT 371).cls = "java/lang/String" := rfl
theorem hn371 : (ynT 371).name = "charAt" := rfl
theorem tb371 : ∀ pc, TBX PP ynT yhT 371 pc := tbN rfl
theorem hb397 : ybT 397 = cJ8_init := rfl
theorem ho397 : (ynT 397).cls = "java/util/AbstractMap" := rfl
theorem hn397 : (ynT 397).name = "<init>" := rfl
theorem tb397 : ∀ pc, TBX PP ynT yhT 397 pc := tbN rfl
theorem hb398 : ybT 398 = cJ9_init := rfl
theorem ho398 : (ynT 398).cls = "java/util/TreeMap" := rfl
theorem hn398 : (ynT 398).name = "<init>" := rfl
theorem tb398 : ∀ pc, TBX PP ynT yhT 398 pc := tbN rfl
theorem hb399 : ybT 399 = cJ9_size := rfl
theorem ho399 : (ynT 399).cls = "java/util/TreeMap" := rfl
theorem hn399 : (ynT 399).name = "size" := rfl
theorem tb399 : ∀ pc, TBX PP ynT yhT 399 pc := tbN rfl
theorem hb400 : ybT 400 = cJ9_put := rfl
theorem ho400 : (ynT 400).cls = "java/util/TreeMap" := rfl
theorem hn400 : (ynT 400).name = "put" := rfl
theorem tb400 : ∀ pc, TBX PP ynT yhT 400 pc := tbN rfl
theorem hb401 : ybT 401 = cJ9_put_2 := rfl
theorem ho401 : (ynT 401).cls = "java/util/TreeMap" := rfl
theorem hn401 : (ynT 401).name = "put" := rfl
theorem tb401 : ∀ pc, TBX PP ynT yhT 401 pc := tbN rfl
theorem hb402 : ybT 402 = cJ9_addEntryToEmptyMap := rfl
theorem ho402 : (ynT 402).cls = "java/util/TreeMap" := rfl
theorem hn402 : (ynT 402).name = "addEntryToEmptyMap" := rfl
theorem tb402 : ∀ pc, TBX PP ynT yhT 402 pc := tbN rfl
theorem hb403 : ybT 403 = cJ9_compare := rfl
theorem ho403 : (ynT 403).cls = "java/util/TreeMap" := rfl
theorem hn403 : (ynT 403).name = "compare" := rfl
theorem tb403 : ∀ pc, TBX PP ynT yhT 403 pc := tbN rfl
theorem hb404 : ybT 404 = cJ9_addEntry := rfl
theorem ho404 : (ynT 404).cls = "java/util/TreeMap" := rfl
theorem hn404 : (ynT 404).name = "addEntry" := rfl
theorem tb404 : ∀ pc, TBX PP ynT yhT 404 pc := tbN rfl
theorem hb405 : ybT 405 = cJ9_fixAfterInsertion := rfl
theorem ho405 : (ynT 405).cls = "java/util/TreeMap" := rfl
theorem hn405 : (ynT 405).name = "fixAfterInsertion" := rfl
theorem tb405 : ∀ pc, TBX PP ynT yhT 405 pc := tbN rfl
theorem hb406 : ybT 406 = cJ9_parentOf := rfl
theorem ho406 : (ynT 406).cls = "java/util/TreeMap" := rfl
theorem hn406 : (ynT 406).name = "parentOf" := rfl
theorem tb406 : ∀ pc, TBX PP ynT yhT 406 pc := tbN rfl
theorem hb407 : ybT 407 = cJ9_leftOf := rfl
theorem ho407 : (ynT 407).cls = "java/util/TreeMap" := rfl
theorem hn407 : (ynT 407).name = "leftOf" := rfl
theorem tb407 : ∀ pc, TBX PP ynT yhT 407 pc := tbN rfl
theorem hb408 : ybT 408 = cJ9_rightOf := rfl
theorem ho408 : (ynT 408).cls = "java/util/TreeMap" := rfl
theorem hn408 : (ynT 408).name = "rightOf" := rfl
theorem tb408 : ∀ pc, TBX PP ynT yhT 408 pc := tbN rfl
theorem hb409 : ybT 409 = cJ9_colorOf := rfl
theorem ho409 : (ynT 409).cls = "java/util/TreeMap" := rfl
theorem hn409 : (ynT 409).name = "colorOf" := rfl
theorem tb409 : ∀ pc, TBX PP ynT yhT 409 pc := tbN rfl
theorem hb410 : ybT 410 = cJ9_setColor := rfl
theorem ho410 : (ynT 410).cls = "java/util/TreeMap" := rfl
theorem hn410 : (ynT 410).name = "setColor" := rfl
theorem tb410 : ∀ pc, TBX PP ynT yhT 410 pc := tbN rfl
theorem hb411 : ybT 411 = cJ9_rotateLeft := rfl
theorem ho411 : (ynT 411).cls = "java/util/TreeMap" := rfl
theorem hn411 : (ynT 411).name = "rotateLeft" := rfl
theorem tb411 : ∀ pc, TBX PP ynT yhT 411 pc := tbN rfl
theorem hb412 : ybT 412 = cJ9_rotateRight := rfl
theorem ho412 : (ynT 412).cls = "java/util/TreeMap" := rfl
theorem hn412 : (ynT 412).name = "rotateRight" := rfl
theorem tb412 : ∀ pc, TBX PP ynT yhT 412 pc := tbN rfl
theorem hb413 : ybT 413 = cJ9_containsKey := rfl
theorem ho413 : (ynT 413).cls = "java/util/TreeMap" := rfl
theorem hn413 : (ynT 413).name = "containsKey" := rfl
theorem tb413 : ∀ pc, TBX PP ynT yhT 413 pc := tbN rfl
theorem hb414 : ybT 414 = cJ9_getEntry := rfl
theorem ho414 : (ynT 414).cls = "java/util/TreeMap" := rfl
theorem hn414 : (ynT 414).name = "getEntry" := rfl
theorem tb414 : ∀ pc, TBX PP ynT yhT 414 pc := tbN rfl
theorem hb415 : ybT 415 = cJ9_getEntryUsingComparator := rfl
theorem ho415 : (ynT 415).cls = "java/util/TreeMap" := rfl
theorem hn415 : (ynT 415).name = "getEntryUsingComparator" := rfl
theorem tb415 : ∀ pc, TBX PP ynT yhT 415 pc := tbN rfl
theorem hb416 : ybT 416 = cJ9_get := rfl
theorem ho416 : (ynT 416).cls = "java/util/TreeMap" := rfl
theorem hn416 : (ynT 416).name = "get" := rfl
theorem tb416 : ∀ pc, TBX PP ynT yhT 416 pc := tbN rfl
theorem hb417 : ybT 417 = cJ10_newLength := rfl
theorem ho417 : (ynT 417).cls = "jdk/internal/util/ArraysSupport" := rfl
theorem hn417 : (ynT 417).name = "newLength" := rfl
theorem tb417 : ∀ pc, TBX PP ynT yhT 417 pc := tbN rfl
theorem hb419 : ybT 419 = cJ10_mismatch := rfl
theorem ho419 : (ynT 419).cls = "jdk/internal/util/ArraysSupport" := rfl
theorem hn419 : (ynT 419).name = "mismatch" := rfl
theorem tb419 : ∀ pc, TBX PP ynT yhT 419 pc := tbN rfl
theorem hb421 : ybT 421 = cJ10_vectorizedHashCode := rfl
theorem ho421 : (ynT 421).cls = "jdk/internal/util/ArraysSupport" := rfl
theorem hn421 : (ynT 421).name = "vectorizedHashCode" := rfl
theorem tb421 : ∀ pc, TBX PP ynT yhT 421 pc := tbN rfl
theorem hb430 : ybT 430 = cJ12_copyOf := rfl
theorem ho430 : (ynT 430).cls = "java/util/Arrays" := rfl
theorem hn430 : (ynT 430).name = "copyOf" := rfl
theorem tb430 : ∀ pc, TBX PP ynT yhT 430 pc := tbN rfl
theorem hb431 : ybT 431 = cJ12_copyOf_2 := rfl
theorem ho431 : (ynT 431).cls = "java/util/Arrays" := rfl
theorem hn431 : (ynT 431).name = "copyOf" := rfl
theorem tb431 : ∀ pc, TBX PP ynT yhT 431 pc := tbN rfl
theorem hb432 : ybT 432 = cJ12_copyOf_3 := rfl
theorem ho432 : (ynT 432).cls = "java/util/Arrays" := rfl
theorem hn432 : (ynT 432).name = "copyOf" := rfl
theorem tb432 : ∀ pc, TBX PP ynT yhT 432 pc := tbN rfl
theorem hb433 : ybT 433 = cJ12_copyOfRange := rfl
theorem ho433 : (ynT 433).cls = "java/util/Arrays" := rfl
theorem hn433 : (ynT 433).name = "copyOfRange" := rfl
theorem tb433 : ∀ pc, TBX PP ynT yhT 433 pc := tbN rfl
theorem hb434 : ybT 434 = cJ12_copyOfRangeByte := rfl
theorem ho434 : (ynT 434).cls = "java/util/Arrays" := rfl
theorem hn434 : (ynT 434).name = "copyOfRangeByte" := rfl
theorem tb434 : ∀ pc, TBX PP ynT yhT 434 pc := tbN rfl
theorem hb435 : ybT 435 = cJ12_checkLength := rfl
theorem ho435 : (ynT 435).cls = "java/util/Arrays" := rfl
theorem hn435 : (ynT 435).name = "checkLength" := rfl
theorem tb435 : ∀ pc, TBX PP ynT yhT 435 pc := tbN rfl
theorem hb436 : ybT 436 = cJ12_copyOf_4 := rfl
theorem ho436 : (ynT 436).cls = "java/util/Arrays" := rfl
theorem hn436 : (ynT 436).name = "copyOf" := rfl
theorem tb436 : ∀ pc, TBX PP ynT yhT 436 pc := tbN rfl
theorem hb437 : ybT 437 = cJ12_fill := rfl
theorem ho437 : (ynT 437).cls = "java/util/Arrays" := rfl
theorem hn437 : (ynT 437).name = "fill" := rfl
theorem tb437 : ∀ pc, TBX PP ynT yhT 437 pc := tbN rfl
theorem hb438 : ybT 438 = cJ12_rangeCheck := rfl
theorem ho438 : (ynT 438).cls = "java/util/Arrays" := rfl
theorem hn438 : (ynT 438).name = "rangeCheck" := rfl
theorem tb438 : ∀ pc, TBX PP ynT yhT 438 pc := tbN rfl
theorem hb439 : ybT 439 = cJ13_init := rfl
theorem ho439 : (ynT 439).cls = "java/lang/Number" := rfl
theorem hn439 : (ynT 439).name = "<init>" := rfl
theorem tb439 : ∀ pc, TBX PP ynT yhT 439 pc := tbN rfl
theorem hb440 : ybT 440 = cJ14_valueOf := rfl
theorem ho440 : (ynT 440).cls = "java/lang/Integer" := rfl
theorem hn440 : (ynT 440).name = "valueOf" := rfl
theorem tb440 : ∀ pc, TBX PP ynT yhT 440 pc := tbN rfl
theorem hb441 : ybT 441 = cJ14_init := rfl
theorem ho441 : (ynT 441).cls = "java/lang/Integer" := rfl
theorem hn441 : (ynT 441).name = "<init>" := rfl
theorem tb441 : ∀ pc, TBX PP ynT yhT 441 pc := tbN rfl
theorem hb442 : ybT 442 = cJ14_compareTo := rfl
theorem ho442 : (ynT 442).cls = "java/lang/Integer" := rfl
theorem hn442 : (ynT 442).name = "compareTo" := rfl
theorem tb442 : ∀ pc, TBX PP ynT yhT 442 pc := tbN rfl
theorem hb443 : ybT 443 = cJ14_compareTo_2 := rfl
theorem ho443 : (ynT 443).cls = "java/lang/Integer" := rfl
theorem hn443 : (ynT 443).name = "compareTo" := rfl
theorem tb443 : ∀ pc, TBX PP ynT yhT 443 pc := tbN rfl
theorem hb444 : ybT 444 = cJ14_compare := rfl
theorem ho444 : (ynT 444).cls = "java/lang/Integer" := rfl
theorem hn444 : (ynT 444).name = "compare" := rfl
theorem tb444 : ∀ pc, TBX PP ynT yhT 444 pc := tbN rfl
theorem hb447 : ybT 447 = cJ14_stringSize := rfl
theorem ho447 : (ynT 447).cls = "java/lang/Integer" := rfl
theorem hn447 : (ynT 447).name = "stringSize" := rfl
theorem tb447 : ∀ pc, TBX PP ynT yhT 447 pc := tbN rfl
theorem hb448 : ybT 448 = cJ14_getChars := rfl
theorem ho448 : (ynT 448).cls = "java/lang/Integer" := rfl
theorem hn448 : (ynT 448).name = "getChars" := rfl
theorem tb448 : ∀ pc, TBX PP ynT yhT 448 pc := tbN rfl
theorem hb449 : ybT 449 = cJ14_equals := rfl
theorem ho449 : (ynT 449).cls = "java/lang/Integer" := rfl
theorem hn449 : (ynT 449).name = "equals" := rfl
theorem tb449 : ∀ pc, TBX PP ynT yhT 449 pc := tbN rfl
theorem hb450 : ybT 450 = cJ14_intValue := rfl
theorem ho450 : (ynT 450).cls = "java/lang/Integer" := rfl
theorem hn450 : (ynT 450).name = "intValue" := rfl
theorem tb450 : ∀ pc, TBX PP ynT yhT 450 pc := tbN rfl
theorem hb451 : ybT 451 = cJ15_compareTo := rfl
theorem ho451 : (ynT 451).cls = "java/lang/StringLatin1" := rfl
theorem hn451 : (ynT 451).name = "compareTo" := rfl
theorem tb451 : ∀ pc, TBX PP ynT yhT 451 pc := tbN rfl
theorem hb452 : ybT 452 = cJ15_compareTo_2 := rfl
theorem ho452 : (ynT 452).cls = "java/lang/StringLatin1" := rfl
theorem hn452 : (ynT 452).name = "compareTo" := rfl
theorem tb452 : ∀ pc, TBX PP ynT yhT 452 pc := tbN rfl
theorem hb453 : ybT 453 = cJ15_getChar := rfl
theorem ho453 : (ynT 453).cls = "java/lang/StringLatin1" := rfl
theorem hn453 : (ynT 453).name = "getChar" := rfl
theorem tb453 : ∀ pc, TBX PP ynT yhT 453 pc := tbN rfl
theorem hb454 : ybT 454 = cJ15_compareToUTF16 := rfl
theorem ho454 : (ynT 454).cls = "java/lang/StringLatin1" := rfl
theorem hn454 : (ynT 454).name = "compareToUTF16" := rfl
theorem tb454 : ∀ pc, TBX PP ynT yhT 454 pc := tbN rfl
theorem hb455 : ybT 455 = cJ15_length := rfl
theorem ho455 : (ynT 455).cls = "java/lang/StringLatin1" := rfl
theorem hn455 : (ynT 455).name = "length" := rfl
theorem tb455 : ∀ pc, TBX PP ynT yhT 455 pc := tbN rfl
theorem hb456 : ybT 456 = cJ15_compareToUTF16Values := rfl
theorem ho456 : (ynT 456).cls = "java/lang/StringLatin1" := rfl
theorem hn456 : (ynT 456).name = "compareToUTF16Values" := rfl
theorem tb456 : ∀ pc, TBX PP ynT yhT 456 pc := tbN rfl
theorem hb457 : ybT 457 = cJ15_compareToUTF16_2 := rfl
theorem ho457 : (ynT 457).cls = "java/lang/StringLatin1" := rfl
theorem hn457 : (ynT 457).name = "compareToUTF16" := rfl
theorem tb457 : ∀ pc, TBX PP ynT yhT 457 pc := tbN rfl
theorem hb458 : ybT 458 = cJ15_canEncode := rfl
theorem ho458 : (ynT 458).cls = "java/lang/StringLatin1" := rfl
theorem hn458 : (ynT 458).name = "canEncode" := rfl
theorem tb458 : ∀ pc, TBX PP ynT yhT 458 pc := tbN rfl
theorem hb459 : ybT 459 = cJ15_inflate := rfl
theorem ho459 : (ynT 459).cls = "java/lang/StringLatin1" := rfl
theorem hn459 : (ynT 459).name = "inflate" := rfl
theorem tb459 : ∀ pc, TBX PP ynT yhT 459 pc := tbN rfl
theorem hb460 : ybT 460 = cJ15_hashCode := rfl
theorem ho460 : (ynT 460).cls = "java/lang/StringLatin1" := rfl
theorem hn460 : (ynT 460).name = "hashCode" := rfl
theorem tb460 : ∀ pc, TBX PP ynT yhT 460 pc := tbN rfl
theorem hb461 : ybT 461 = cJ15_equals := rfl
theorem ho461 : (ynT 461).cls = "java/lang/StringLatin1" := rfl
theorem hn461 : (ynT 461).name = "equals" := rfl
theorem tb461 : ∀ pc, TBX PP ynT yhT 461 pc := tbN rfl
theorem hb462 : ybT 462 = cJ15_fillNull := rfl
theorem ho462 : (ynT 462).cls = "java/lang/StringLatin1" := rfl
theorem hn462 : (ynT 462).name = "fillNull" := rfl
theorem tb462 : ∀ pc, TBX PP ynT yhT 462 pc := tbN rfl
theorem hb463 : ybT 463 = cJ15_charAt := rfl
theorem ho463 : (ynT 463).cls = "java/lang/StringLatin1" := rfl
theorem hn463 : (ynT 463).name = "charAt" := rfl
theorem tb463 : ∀ pc, TBX PP ynT yhT 463 pc := tbN rfl
theorem hb479 : ybT 479 = cJ18_checkFromToIndex := rfl
theorem ho479 : (ynT 479).cls = "jdk/internal/util/Preconditions" := rfl
theorem hn479 : (ynT 479).name = "checkFromToIndex" := rfl
theorem tb479 : ∀ pc, TBX PP ynT yhT 479 pc := tbN rfl
theorem hb481 : ybT 481 = cJ18_checkIndex := rfl
theorem ho481 : (ynT 481).cls = "jdk/internal/util/Preconditions" := rfl
theorem hn481 : (ynT 481).name = "checkIndex" := rfl
theorem tb481 : ∀ pc, TBX PP ynT yhT 481 pc := tbN rfl
theorem hb482 : ybT 482 = cJ19_init := rfl
theorem ho482 : (ynT 482).cls = "java/util/TreeMap$Entry" := rfl
theorem hn482 : (ynT 482).name = "<init>" := rfl
theorem tb482 : ∀ pc, TBX PP ynT yhT 482 pc := tbN rfl
theorem hb483 : ybT 483 = cJ20_requireNonNull := rfl
theorem ho483 : (ynT 483).cls = "java/util/Objects" := rfl
theorem hn483 : (ynT 483).name = "requireNonNull" := rfl
theorem tb483 : ∀ pc, TBX PP ynT yhT 483 pc := tbN rfl
theorem hb484 : ybT 484 = cJ20_equals := rfl
theorem ho484 : (ynT 484).cls = "java/util/Objects" := rfl
theorem hn484 : (ynT 484).name = "equals" := rfl
theorem tb484 : ∀ pc, TBX PP ynT yhT 484 pc := tbN rfl
theorem hb485 : ybT 485 = cJ20_checkIndex := rfl
theorem ho485 : (ynT 485).cls = "java/util/Objects" := rfl
theorem hn485 : (ynT 485).name = "checkIndex" := rfl
theorem tb485 : ∀ pc, TBX PP ynT yhT 485 pc := tbN rfl
theorem hb486 : ybT 486 = cJ21_listFromArray := rfl
theorem ho486 : (ynT 486).cls = "java/util/ImmutableCollections" := rfl
theorem hn486 : (ynT 486).name = "listFromArray" := rfl
theorem tb486 : ∀ pc, TBX PP ynT yhT 486 pc := tbN rfl
theorem hb487 : ybT 487 = cJ22_of := rfl
theorem ho487 : (ynT 487).cls = "java/util/List" := rfl
theorem hn487 : (ynT 487).name = "of" := rfl
theorem tb487 : ∀ pc, TBX PP ynT yhT 487 pc := tbN rfl
theorem hb488 : ybT 488 = cJ23_add := rfl
theorem ho488 : (ynT 488).cls = "java/util/ImmutableCollections$AbstractImmutableCollection" := rfl
theorem hn488 : (ynT 488).name = "add" := rfl
theorem tb488 : ∀ pc, TBX PP ynT yhT 488 pc := tbN rfl
theorem hb489 : ybT 489 = cJ23_addAll := rfl
theorem ho489 : (ynT 489).cls = "java/util/ImmutableCollections$AbstractImmutableCollection" := rfl
theorem hn489 : (ynT 489).name = "addAll" := rfl
theorem tb489 : ∀ pc, TBX PP ynT yhT 489 pc := tbN rfl
theorem hb490 : ybT 490 = cJ23_init := rfl
theorem ho490 : (ynT 490).cls = "java/util/ImmutableCollections$AbstractImmutableCollection" := rfl
theorem hn490 : (ynT 490).name = "<init>" := rfl
theorem tb490 : ∀ pc, TBX PP ynT yhT 490 pc := tbN rfl
theorem hb491 : ybT 491 = cJ23_clear := rfl
theorem ho491 : (ynT 491).cls = "java/util/ImmutableCollections$AbstractImmutableCollection" := rfl
theorem hn491 : (ynT 491).name = "clear" := rfl
theorem tb491 : ∀ pc, TBX PP ynT yhT 491 pc := tbN rfl
theorem hb492 : ybT 492 = cJ24_init := rfl
theorem ho492 : (ynT 492).cls = "java/util/ImmutableCollections$AbstractImmutableList" := rfl
theorem hn492 : (ynT 492).name = "<init>" := rfl
theorem tb492 : ∀ pc, TBX PP ynT yhT 492 pc := tbN rfl
theorem hb493 : ybT 493 = cJ24_contains := rfl
theorem ho493 : (ynT 493).cls = "java/util/ImmutableCollections$AbstractImmutableList" := rfl
theorem hn493 : (ynT 493).name = "contains" := rfl
theorem tb493 : ∀ pc, TBX PP ynT yhT 493 pc := tbN rfl
theorem hb495 : ybT 495 = cJ24_remove := rfl
theorem ho495 : (ynT 495).cls = "java/util/ImmutableCollections$AbstractImmutableList" := rfl
theorem hn495 : (ynT 495).name = "remove" := rfl
theorem tb495 : ∀ pc, TBX PP ynT yhT 495 pc := tbN rfl
theorem hb496 : ybT 496 = cJ24_iterator := rfl
theorem ho496 : (ynT 496).cls = "java/util/ImmutableCollections$AbstractImmutableList" := rfl
theorem hn496 : (ynT 496).name = "iterator" := rfl
theorem tb496 : ∀ pc, TBX PP ynT yhT 496 pc := tbN rfl
theorem hb499 : ybT 499 = cJ25_init := rfl
theorem ho499 : (ynT 499).cls = "java/util/ImmutableCollections$List12" := rfl
theorem hn499 : (ynT 499).name = "<init>" := rfl
theorem tb499 : ∀ pc, TBX PP ynT yhT 499 pc := tbN rfl
theorem hb500 : ybT 500 = cJ25_init_2 := rfl
theorem ho500 : (ynT 500).cls = "java/util/ImmutableCollections$List12" := rfl
theorem hn500 : (ynT 500).name = "<init>" := rfl
theorem tb500 : ∀ pc, TBX PP ynT yhT 500 pc := tbN rfl
theorem hb504 : ybT 504 = cJ26_toArray := rfl
theorem ho504 : (ynT 504).cls = "java/util/ImmutableCollections$ListN" := rfl
theorem hn504 : (ynT 504).name = "toArray" := rfl
theorem tb504 : ∀ pc, TBX PP ynT yhT 504 pc := tbN rfl
theorem hb505 : ybT 505 = cJ26_size := rfl
theorem ho505 : (ynT 505).cls = "java/util/ImmutableCollections$ListN" := rfl
theorem hn505 : (ynT 505).name = "size" := rfl
theorem tb505 : ∀ pc, TBX PP ynT yhT 505 pc := tbN rfl
theorem hb506 : ybT 506 = cJ26_init := rfl
theorem ho506 : (ynT 506).cls = "java/util/ImmutableCollections$ListN" := rfl
theorem hn506 : (ynT 506).name = "<init>" := rfl
theorem tb506 : ∀ pc, TBX PP ynT yhT 506 pc := tbN rfl
theorem hb507 : ybT 507 = cJ26_indexOf := rfl
theorem ho507 : (ynT 507).cls = "java/util/ImmutableCollections$ListN" := rfl
theorem hn507 : (ynT 507).name = "indexOf" := rfl
theorem tb507 : ∀ pc, TBX PP ynT yhT 507 pc := tbN rfl
theorem hb508 : ybT 508 = cJ26_get := rfl
theorem ho508 : (ynT 508).cls = "java/util/ImmutableCollections$ListN" := rfl
theorem hn508 : (ynT 508).name = "get" := rfl
theorem tb508 : ∀ pc, TBX PP ynT yhT 508 pc := tbN rfl
theorem hb509 : ybT 509 = cJ26_isEmpty := rfl
theorem ho509 : (ynT 509).cls = "java/util/ImmutableCollections$ListN" := rfl
theorem hn509 : (ynT 509).name = "isEmpty" := rfl
theorem tb509 : ∀ pc, TBX PP ynT yhT 509 pc := tbN rfl
theorem hb510 : ybT 510 = cJ27_init := rfl
theorem ho510 : (ynT 510).cls = "java/util/BitSet" := rfl
theorem hn510 : (ynT 510).name = "<init>" := rfl
theorem tb510 : ∀ pc, TBX PP ynT yhT 510 pc := tbN rfl
theorem hb511 : ybT 511 = cJ27_initWords := rfl
theorem ho511 : (ynT 511).cls = "java/util/BitSet" := rfl
theorem hn511 : (ynT 511).name = "initWords" := rfl
theorem tb511 : ∀ pc, TBX PP ynT yhT 511 pc := tbN rfl
theorem hb512 : ybT 512 = cJ27_wordIndex := rfl
theorem ho512 : (ynT 512).cls = "java/util/BitSet" := rfl
theorem hn512 : (ynT 512).name = "wordIndex" := rfl
theorem tb512 : ∀ pc, TBX PP ynT yhT 512 pc := tbN rfl
theorem hb513 : ybT 513 = cJ27_get := rfl
theorem ho513 : (ynT 513).cls = "java/util/BitSet" := rfl
theorem hn513 : (ynT 513).name = "get" := rfl
theorem tb513 : ∀ pc, TBX PP ynT yhT 513 pc := tbN rfl
theorem hb514 : ybT 514 = cJ27_checkInvariants := rfl
theorem ho514 : (ynT 514).cls = "java/util/BitSet" := rfl
theorem hn514 : (ynT 514).name = "checkInvariants" := rfl
theorem tb514 : ∀ pc, TBX PP ynT yhT 514 pc := tbN rfl
theorem hb515 : ybT 515 = cJ27_set := rfl
theorem ho515 : (ynT 515).cls = "java/util/BitSet" := rfl
theorem hn515 : (ynT 515).name = "set" := rfl
theorem tb515 : ∀ pc, TBX PP ynT yhT 515 pc := tbN rfl
theorem hb516 : ybT 516 = cJ27_expandTo := rfl
theorem ho516 : (ynT 516).cls = "java/util/BitSet" := rfl
theorem hn516 : (ynT 516).name = "expandTo" := rfl
theorem tb516 : ∀ pc, TBX PP ynT yhT 516 pc := tbN rfl
theorem hb517 : ybT 517 = cJ27_ensureCapacity := rfl
theorem ho517 : (ynT 517).cls = "java/util/BitSet" := rfl
theorem hn517 : (ynT 517).name = "ensureCapacity" := rfl
theorem tb517 : ∀ pc, TBX PP ynT yhT 517 pc := tbN rfl
theorem hb520 : ybT 520 = cJ28_init_3 := rfl
theorem ho520 : (ynT 520).cls = "java/lang/Throwable" := rfl
theorem hn520 : (ynT 520).name = "<init>" := rfl
theorem tb520 : ∀ pc, TBX PP ynT yhT 520 pc := tbN rfl
theorem hb522 : ybT 522 = cJ29_init_2 := rfl
theorem ho522 : (ynT 522).cls = "java/lang/Exception" := rfl
theorem hn522 : (ynT 522).name = "<init>" := rfl
theorem tb522 : ∀ pc, TBX PP ynT yhT 522 pc := tbN rfl
theorem hb532 : ybT 532 = cJ34_init := rfl
theorem ho532 : (ynT 532).cls = "java/util/ArrayList$Itr" := rfl
theorem hn532 : (ynT 532).name = "<init>" := rfl
theorem tb532 : ∀ pc, TBX PP ynT yhT 532 pc := tbN rfl
theorem hb533 : ybT 533 = cJ34_hasNext := rfl
theorem ho533 : (ynT 533).cls = "java/util/ArrayList$Itr" := rfl
theorem hn533 : (ynT 533).name = "hasNext" := rfl
theorem tb533 : ∀ pc, TBX PP ynT yhT 533 pc := tbN rfl
theorem hb534 : ybT 534 = cJ34_next := rfl
theorem ho534 : (ynT 534).cls = "java/util/ArrayList$Itr" := rfl
theorem hn534 : (ynT 534).name = "next" := rfl
theorem tb534 : ∀ pc, TBX PP ynT yhT 534 pc := tbN rfl
theorem hb535 : ybT 535 = cJ34_checkForComodification := rfl
theorem ho535 : (ynT 535).cls = "java/util/ArrayList$Itr" := rfl
theorem hn535 : (ynT 535).name = "checkForComodification" := rfl
theorem tb535 : ∀ pc, TBX PP ynT yhT 535 pc := tbN rfl
theorem hb540 : ybT 540 = cJ37_init := rfl
theorem ho540 : (ynT 540).cls = "java/util/AbstractQueue" := rfl
theorem hn540 : (ynT 540).name = "<init>" := rfl
theorem tb540 : ∀ pc, TBX PP ynT yhT 540 pc := tbN rfl
theorem hb541 : ybT 541 = cJ37_remove := rfl
theorem ho541 : (ynT 541).cls = "java/util/AbstractQueue" := rfl
theorem hn541 : (ynT 541).name = "remove" := rfl
theorem tb541 : ∀ pc, TBX PP ynT yhT 541 pc := tbN rfl
theorem hb542 : ybT 542 = cJ38_toArray := rfl
theorem ho542 : (ynT 542).cls = "java/util/PriorityQueue" := rfl
theorem hn542 : (ynT 542).name = "toArray" := rfl
theorem tb542 : ∀ pc, TBX PP ynT yhT 542 pc := tbN rfl
theorem hb543 : ybT 543 = cJ38_init := rfl
theorem ho543 : (ynT 543).cls = "java/util/PriorityQueue" := rfl
theorem hn543 : (ynT 543).name = "<init>" := rfl
theorem tb543 : ∀ pc, TBX PP ynT yhT 543 pc := tbN rfl
theorem hb544 : ybT 544 = cJ38_init_2 := rfl
theorem ho544 : (ynT 544).cls = "java/util/PriorityQueue" := rfl
theorem hn544 : (ynT 544).name = "<init>" := rfl
theorem tb544 : ∀ pc, TBX PP ynT yhT 544 pc := tbN rfl
theorem hb545 : ybT 545 = cJ38_add := rfl
theorem ho545 : (ynT 545).cls = "java/util/PriorityQueue" := rfl
theorem hn545 : (ynT 545).name = "add" := rfl
theorem tb545 : ∀ pc, TBX PP ynT yhT 545 pc := tbN rfl
theorem hb546 : ybT 546 = cJ38_offer := rfl
theorem ho546 : (ynT 546).cls = "java/util/PriorityQueue" := rfl
theorem hn546 : (ynT 546).name = "offer" := rfl
theorem tb546 : ∀ pc, TBX PP ynT yhT 546 pc := tbN rfl
theorem hb547 : ybT 547 = cJ38_grow := rfl
theorem ho547 : (ynT 547).cls = "java/util/PriorityQueue" := rfl
theorem hn547 : (ynT 547).name = "grow" := rfl
theorem tb547 : ∀ pc, TBX PP ynT yhT 547 pc := tbN rfl
theorem hb548 : ybT 548 = cJ38_siftUp := rfl
theorem ho548 : (ynT 548).cls = "java/util/PriorityQueue" := rfl
theorem hn548 : (ynT 548).name = "siftUp" := rfl
theorem tb548 : ∀ pc, TBX PP ynT yhT 548 pc := tbN rfl
theorem hb549 : ybT 549 = cJ38_siftUpUsingComparator := rfl
theorem ho549 : (ynT 549).cls = "java/util/PriorityQueue" := rfl
theorem hn549 : (ynT 549).name = "siftUpUsingComparator" := rfl
theorem tb549 : ∀ pc, TBX PP ynT yhT 549 pc := tbN rfl
theorem hb550 : ybT 550 = cJ38_siftUpComparable := rfl
theorem ho550 : (ynT 550).cls = "java/util/PriorityQueue" := rfl
theorem hn550 : (ynT 550).name = "siftUpComparable" := rfl
theorem tb550 : ∀ pc, TBX PP ynT yhT 550 pc := tbN rfl
theorem hb551 : ybT 551 = cJ38_size := rfl
theorem ho551 : (ynT 551).cls = "java/util/PriorityQueue" := rfl
theorem hn551 : (ynT 551).name = "size" := rfl
theorem tb551 : ∀ pc, TBX PP ynT yhT 551 pc := tbN rfl
theorem hb552 : ybT 552 = cJ38_poll := rfl
theorem ho552 : (ynT 552).cls = "java/util/PriorityQueue" := rfl
theorem hn552 : (ynT 552).name = "poll" := rfl
theorem tb552 : ∀ pc, TBX PP ynT yhT 552 pc := tbN rfl
theorem hb553 : ybT 553 = cJ38_siftDownComparable := rfl
theorem ho553 : (ynT 553).cls = "java/util/PriorityQueue" := rfl
theorem hn553 : (ynT 553).name = "siftDownComparable" := rfl
theorem tb553 : ∀ pc, TBX PP ynT yhT 553 pc := tbN rfl
theorem hb554 : ybT 554 = cJ38_siftDownUsingComparator := rfl
theorem ho554 : (ynT 554).cls = "java/util/PriorityQueue" := rfl
theorem hn554 : (ynT 554).name = "siftDownUsingComparator" := rfl
theorem tb554 : ∀ pc, TBX PP ynT yhT 554 pc := tbN rfl
theorem npl_0 : npoly "BallotBus" := ⟨by decide, by decide⟩
theorem pln_0 : plainName "BallotBus" = true := by decide +kernel
theorem npl_1 : npoly "BallotBus$Bus" := ⟨by decide, by decide⟩
theorem pln_1 : plainName "BallotBus$Bus" = true := by decide +kernel
theorem npl_2 : npoly "BallotBus$ByMeasure" := ⟨by decide, by decide⟩
theorem pln_2 : plainName "BallotBus$ByMeasure" = true := by decide +kernel
theorem npl_3 : npoly "BallotBus$ParseException" := ⟨by decide, by decide⟩
theorem pln_3 : plainName "BallotBus$ParseException" = true := by decide +kernel
theorem npl_4 : npoly "BallotBus$Parser" := ⟨by decide, by decide⟩
theorem pln_4 : plainName "BallotBus$Parser" = true := by decide +kernel
theorem npl_5 : npoly "BallotBus$Request" := ⟨by decide, by decide⟩
theorem pln_5 : plainName "BallotBus$Request" = true := by decide +kernel
theorem npl_6 : npoly "BallotBus$Setup" := ⟨by decide, by decide⟩
theorem pln_6 : plainName "BallotBus$Setup" = true := by decide +kernel
theorem npl_7 : npoly "BallotBus$Sheet" := ⟨by decide, by decide⟩
theorem pln_7 : plainName "BallotBus$Sheet" = true := by decide +kernel
theorem npl_8 : npoly "BallotBus$Tally" := ⟨by decide, by decide⟩
theorem pln_8 : plainName "BallotBus$Tally" = true := by decide +kernel
theorem npl_9 : npoly "BallotBus$Tally$1" := ⟨by decide, by decide⟩
theorem pln_9 : plainName "BallotBus$Tally$1" = true := by decide +kernel
theorem npl_10 : npoly "BallotBus$Tally$2" := ⟨by decide, by decide⟩
theorem pln_10 : plainName "BallotBus$Tally$2" = true := by decide +kernel
theorem npl_11 : npoly "BallotBus$Tally$3" := ⟨by decide, by decide⟩
theorem pln_11 : plainName "BallotBus$Tally$3" = true := by decide +kernel
theorem npl_12 : npoly "BallotBusLaw" := ⟨by decide, by decide⟩
theorem pln_12 : plainName "BallotBusLaw" = true := by decide +kernel
theorem npl_13 : npoly "BallotBusModel" := ⟨by decide, by decide⟩
theorem pln_13 : plainName "BallotBusModel" = true := by decide +kernel
theorem npl_14 : npoly "java/lang/AbstractStringBuilder" := ⟨by decide, by decide⟩
theorem pln_14 : plainName "java/lang/AbstractStringBuilder" = true := by decide +kernel
theorem npl_15 : npoly "java/lang/Enum" := ⟨by decide, by decide⟩
theorem pln_15 : plainName "java/lang/Enum" = true := by decide +kernel
theorem npl_16 : npoly "java/lang/Exception" := ⟨by decide, by decide⟩
theorem pln_16 : plainName "java/lang/Exception" = true := by decide +kernel
theorem npl_17 : npoly "java/lang/Integer" := ⟨by decide, by decide⟩
theorem pln_17 : plainName "java/lang/Integer" = true := by decide +kernel
theorem npl_18 : npoly "java/lang/Number" := ⟨by decide, by decide⟩
theorem pln_18 : plainName "java/lang/Number" = true := by decide +kernel
theorem npl_19 : npoly "java/lang/String" := ⟨by decide, by decide⟩
theorem pln_19 : plainName "java/lang/String" = true := by decide +kernel
theorem npl_20 : npoly "java/lang/StringBuilder" := ⟨by decide, by decide⟩
theorem pln_20 : plainName "java/lang/StringBuilder" = true := by decide +kernel
theorem npl_21 : npoly "java/lang/StringLatin1" := ⟨by decide, by decide⟩
theorem pln_21 : plainName "java/lang/StringLatin1" = true := by decide +kernel
theorem npl_22 : npoly "java/lang/Throwable" := ⟨by decide, by decide⟩
theorem pln_22 : plainName "java/lang/Throwable" = true := by decide +kernel
theorem npl_23 : npoly "java/util/AbstractCollection" := ⟨by decide, by decide⟩
theorem pln_23 : plainName "java/util/AbstractCollection" = true := by decide +kernel
theorem npl_24 : npoly "java/util/AbstractList" := ⟨by decide, by decide⟩
theorem pln_24 : plainName "java/util/AbstractList" = true := by decide +kernel
theorem npl_25 : npoly "java/util/AbstractMap" := ⟨by decide, by decide⟩
theorem pln_25 : plainName "java/util/AbstractMap" = true := by decide +kernel
theorem npl_26 : npoly "java/util/AbstractQueue" := ⟨by decide, by decide⟩
theorem pln_26 : plainName "java/util/AbstractQueue" = true := by decide +kernel
theorem npl_27 : npoly "java/util/ArrayList" := ⟨by decide, by decide⟩
theorem pln_27 : plainName "java/util/ArrayList" = true := by decide +kernel
theorem npl_28 : npoly "java/util/ArrayList$Itr" := ⟨by decide, by decide⟩
theorem pln_28 : plainName "java/util/ArrayList$Itr" = true := by decide +kernel
theorem npl_29 : npoly "java/util/Arrays" := ⟨by decide, by decide⟩
theorem pln_29 : plainName "java/util/Arrays" = true := by decide +kernel
theorem npl_30 : npoly "java/util/BitSet" := ⟨by decide, by decide⟩
theorem pln_30 : plainName "java/util/BitSet" = true := by decide +kernel
theorem npl_31 : npoly "java/util/ImmutableCollections" := ⟨by decide, by decide⟩
theorem pln_31 : plainName "java/util/ImmutableCollections" = true := by decide +kernel
theorem npl_32 : npoly "java/util/ImmutableCollections$AbstractImmutableCollection" := ⟨by decide, by decide⟩
theorem pln_32 : plainName "java/util/ImmutableCollections$AbstractImmutableCollection" = true := by decide +kernel
theorem npl_33 : npoly "java/util/ImmutableCollections$AbstractImmutableList" := ⟨by decide, by decide⟩
theorem pln_33 : plainName "java/util/ImmutableCollections$AbstractImmutableList" = true := by decide +kernel
theorem npl_34 : npoly "java/util/ImmutableCollections$List12" := ⟨by decide, by decide⟩
theorem pln_34 : plainName "java/util/ImmutableCollections$List12" = true := by decide +kernel
theorem npl_35 : npoly "java/util/ImmutableCollections$ListN" := ⟨by decide, by decide⟩
theorem pln_35 : plainName "java/util/ImmutableCollections$ListN" = true := by decide +kernel
theorem npl_36 : npoly "java/util/List" := ⟨by decide, by decide⟩
theorem pln_36 : plainName "java/util/List" = true := by decide +kernel
theorem npl_37 : npoly "java/util/Objects" := ⟨by decide, by decide⟩
theorem pln_37 : plainName "java/util/Objects" = true := by decide +kernel
theorem npl_38 : npoly "java/util/PriorityQueue" := ⟨by decide, by decide⟩
theorem pln_38 : plainName "java/util/PriorityQueue" = true := by decide +kernel
theorem npl_39 : npoly "java/util/TreeMap" := ⟨by decide, by decide⟩
theorem pln_39 : plainName "java/util/TreeMap" = true := by decide +kernel
theorem npl_40 : npoly "java/util/TreeMap$Entry" := ⟨by decide, by decide⟩
theorem pln_40 : plainName "java/util/TreeMap$Entry" = true := by decide +kernel
theorem npl_41 : npoly "jdk/internal/util/ArraysSupport" := ⟨by decide, by decide⟩
theorem pln_41 : plainName "jdk/internal/util/ArraysSupport" = true := by decide +kernel
theorem npl_42 : npoly "jdk/internal/util/Preconditions" := ⟨by decide, by decide⟩
theorem pln_42 : plainName "jdk/internal/util/Preconditions" = true := by decide +kernel
theorem ar1 : arity (ynT 1) 4 := by unfold arity; decide +kernel
theorem ar2 : arity (ynT 2) 4 := by unfold arity; decide +kernel
theorem ar3 : arity (ynT 3) 4 := by unfold arity; decide +kernel
theorem ar4 : arity (ynT 4) 3 := by unfold arity; decide +kernel
theorem ar5 : arity (ynT 5) 4 := by unfold arity; decide +kernel
theorem ar6 : arity (ynT 6) 4 := by unfold arity; decide +kernel
theorem ar7 : arity (ynT 7) 4 := by unfold arity; decide +kernel
theorem ar8 : arity (ynT 8) 3 := by unfold arity; decide +kernel
theorem ar9 : arity (ynT 9) 4 := by unfold arity; decide +kernel
theorem ar10 : arity (ynT 10) 4 := by unfold arity; decide +kernel
theorem ar11 : arity (ynT 11) 3 := by unfold arity; decide +kernel
theorem ar12 : arity (ynT 12) 4 := by unfold arity; decide +kernel
theorem ar13 : arity (ynT 13) 3 := by unfold arity; decide +kernel
theorem ar14 : arity (ynT 14) 4 := by unfold arity; decide +kernel
theorem ar15 : arity (ynT 15) 3 := by unfold arity; decide +kernel
theorem ar16 : arity (ynT 16) 3 := by unfold arity; decide +kernel
theorem ar17 : arity (ynT 17) 3 := by unfold arity; decide +kernel
theorem ar18 : arity (ynT 18) 3 := by unfold arity; decide +kernel
theorem ar19 : arity (ynT 19) 3 := by unfold arity; decide +kernel
theorem ar20 : arity (ynT 20) 5 := by unfold arity; decide +kernel
theorem ar21 : arity (ynT 21) 3 := by unfold arity; decide +kernel
theorem ar22 : arity (ynT 22) 3 := by unfold arity; decide +kernel
theorem ar23 : arity (ynT 23) 4 := by unfold arity; decide +kernel
theorem ar24 : arity (ynT 24) 3 := by unfold arity; decide +kernel
theorem ar25 : arity (ynT 25) 3 := by unfold arity; decide +kernel
theorem ar26 : arity (ynT 26) 4 := by unfold arity; decide +kernel
theorem ar27 : arity (ynT 27) 2 := by unfold arity; decide +kernel
theorem ar28 : arity (ynT 28) 4 := by unfold arity; decide +kernel
theorem ar29 : arity (ynT 29) 4 := by unfold arity; decide +kernel
theorem ar30 : arity (ynT 30) 4 := by unfold arity; decide +kernel
theorem ar31 : arity (ynT 31) 3 := by unfold arity; decide +kernel
theorem ar32 : arity (ynT 32) 3 := by unfold arity; decide +kernel
theorem ar33 : arity (ynT 33) 3 := by unfold arity; decide +kernel
theorem ar34 : arity (ynT 34) 2 := by unfold arity; decide +kernel
theorem ar35 : arity (ynT 35) 0 := by unfold arity; decide +kernel
theorem ar36 : arity (ynT 36) 5 := by unfold arity; decide +kernel
theorem ar37 : arity (ynT 37) 1 := by unfold arity; decide +kernel
theorem ar38 : arity (ynT 38) 1 := by unfold arity; decide +kernel
theorem ar39 : arity (ynT 39) 3 := by unfold arity; decide +kernel
theorem ar40 : arity (ynT 40) 0 := by unfold arity; decide +kernel
theorem ar41 : arity (ynT 41) 0 := by unfold arity; decide +kernel
theorem ar42 : arity (ynT 42) 0 := by unfold arity; decide +kernel
theorem ar43 : arity (ynT 43) 1 := by unfold arity; decide +kernel
theorem ar44 : arity (ynT 44) 0 := by unfold arity; decide +kernel
theorem ar45 : arity (ynT 45) 1 := by unfold arity; decide +kernel
theorem ar46 : arity (ynT 46) 0 := by unfold arity; decide +kernel
theorem ar47 : arity (ynT 47) 0 := by unfold arity; decide +kernel
theorem ar48 : arity (ynT 48) 0 := by unfold arity; decide +kernel
theorem ar49 : arity (ynT 49) 0 := by unfold arity; decide +kernel
theorem ar50 : arity (ynT 50) 0 := by unfold arity; decide +kernel
theorem ar51 : arity (ynT 51) 0 := by unfold arity; decide +kernel
theorem ar52 : arity (ynT 52) 0 := by unfold arity; decide +kernel
theorem ar53 : arity (ynT 53) 1 := by unfold arity; decide +kernel
theorem ar54 : arity (ynT 54) 0 := by unfold arity; decide +kernel
theorem ar55 : arity (ynT 55) 2 := by unfold arity; decide +kernel
theorem ar56 : arity (ynT 56) 1 := by unfold arity; decide +kernel
theorem ar57 : arity (ynT 57) 1 := by unfold arity; decide +kernel
theorem ar58 : arity (ynT 58) 2 := by unfold arity; decide +kernel
theorem ar59 : arity (ynT 59) 2 := by unfold arity; decide +kernel
theorem ar60 : arity (ynT 60) 1 := by unfold arity; decide +kernel
theorem ar61 : arity (ynT 61) 1 := by unfold arity; decide +kernel
theorem ar62 : arity (ynT 62) 2 := by unfold arity; decide +kernel
theorem ar63 : arity (ynT 63) 1 := by unfold arity; decide +kernel
theorem ar64 : arity (ynT 64) 2 := by unfold arity; decide +kernel
theorem ar65 : arity (ynT 65) 1 := by unfold arity; decide +kernel
theorem ar66 : arity (ynT 66) 1 := by unfold arity; decide +kernel
theorem ar67 : arity (ynT 67) 2 := by unfold arity; decide +kernel
theorem ar68 : arity (ynT 68) 2 := by unfold arity; decide +kernel
theorem ar69 : arity (ynT 69) 1 := by unfold arity; decide +kernel
theorem ar70 : arity (ynT 70) 2 := by unfold arity; decide +kernel
theorem ar71 : arity (ynT 71) 2 := by unfold arity; decide +kernel
theorem ar72 : arity (ynT 72) 1 := by unfold arity; decide +kernel
theorem ar73 : arity (ynT 73) 2 := by unfold arity; decide +kernel
theorem ar74 : arity (ynT 74) 1 := by unfold arity; decide +kernel
theorem ar75 : arity (ynT 75) 2 := by unfold arity; decide +kernel
theorem ar76 : arity (ynT 76) 2 := by unfold arity; decide +kernel
theorem ar77 : arity (ynT 77) 1 := by unfold arity; decide +kernel
theorem ar78 : arity (ynT 78) 2 := by unfold arity; decide +kernel
theorem ar79 : arity (ynT 79) 1 := by unfold arity; decide +kernel
theorem ar81 : arity (ynT 81) 2 := by unfold arity; decide +kernel
theorem ar82 : arity (ynT 82) 4 := by unfold arity; decide +kernel
theorem ar83 : arity (ynT 83) 1 := by unfold arity; decide +kernel
theorem ar84 : arity (ynT 84) 1 := by unfold arity; decide +kernel
theorem ar85 : arity (ynT 85) 1 := by unfold arity; decide +kernel
theorem ar86 : arity (ynT 86) 2 := by unfold arity; decide +kernel
theorem ar87 : arity (ynT 87) 0 := by unfold arity; decide +kernel
theorem ar88 : arity (ynT 88) 3 := by unfold arity; decide +kernel
theorem ar89 : arity (ynT 89) 1 := by unfold arity; decide +kernel
theorem ar90 : arity (ynT 90) 1 := by unfold arity; decide +kernel
theorem ar91 : arity (ynT 91) 1 := by unfold arity; decide +kernel
theorem ar92 : arity (ynT 92) 2 := by unfold arity; decide +kernel
theorem ar93 : arity (ynT 93) 1 := by unfold arity; decide +kernel
theorem ar94 : arity (ynT 94) 1 := by unfold arity; decide +kernel
theorem ar95 : arity (ynT 95) 2 := by unfold arity; decide +kernel
theorem ar96 : arity (ynT 96) 0 := by unfold arity; decide +kernel
theorem ar97 : arity (ynT 97) 2 := by unfold arity; decide +kernel
theorem ar98 : arity (ynT 98) 2 := by unfold arity; decide +kernel
theorem ar99 : arity (ynT 99) 2 := by unfold arity; decide +kernel
theorem ar100 : arity (ynT 100) 1 := by unfold arity; decide +kernel
theorem ar101 : arity (ynT 101) 1 := by unfold arity; decide +kernel
theorem ar103 : arity (ynT 103) 1 := by unfold arity; decide +kernel
theorem ar104 : arity (ynT 104) 1 := by unfold arity; decide +kernel
theorem ar105 : arity (ynT 105) 0 := by unfold arity; decide +kernel
theorem ar106 : arity (ynT 106) 0 := by unfold arity; decide +kernel
theorem ar107 : arity (ynT 107) 2 := by unfold arity; decide +kernel
theorem ar108 : arity (ynT 108) 0 := by unfold arity; decide +kernel
theorem ar109 : arity (ynT 109) 2 := by unfold arity; decide +kernel
theorem ar110 : arity (ynT 110) 0 := by unfold arity; decide +kernel
theorem ar111 : arity (ynT 111) 3 := by unfold arity; decide +kernel
theorem ar112 : arity (ynT 112) 0 := by unfold arity; decide +kernel
theorem ar113 : arity (ynT 113) 2 := by unfold arity; decide +kernel
theorem ar118 : arity (ynT 118) 1 := by unfold arity; decide +kernel
theorem ar119 : arity (ynT 119) 1 := by unfold arity; decide +kernel
theorem ar120 : arity (ynT 120) 0 := by unfold arity; decide +kernel
theorem ar121 : arity (ynT 121) 2 := by unfold arity; decide +kernel
theorem ar122 : arity (ynT 122) 0 := by unfold arity; decide +kernel
theorem ar123 : arity (ynT 123) 0 := by unfold arity; decide +kernel
theorem ar124 : arity (ynT 124) 0 := by unfold arity; decide +kernel
theorem ar125 : arity (ynT 125) 0 := by unfold arity; decide +kernel
theorem ar126 : arity (ynT 126) 0 := by unfold arity; decide +kernel
theorem ar127 : arity (ynT 127) 1 := by unfold arity; decide +kernel
theorem ar128 : arity (ynT 128) 1 := by unfold arity; decide +kernel
theorem ar129 : arity (ynT 129) 1 := by unfold arity; decide +kernel
theorem ar130 : arity (ynT 130) 1 := by unfold arity; decide +kernel
theorem ar131 : arity (ynT 131) 0 := by unfold arity; decide +kernel
theorem ar132 : arity (ynT 132) 1 := by unfold arity; decide +kernel
theorem ar133 : arity (ynT 133) 3 := by unfold arity; decide +kernel
theorem ar134 : arity (ynT 134) 1 := by unfold arity; decide +kernel
theorem ar135 : arity (ynT 135) 1 := by unfold arity; decide +kernel
theorem ar136 : arity (ynT 136) 2 := by unfold arity; decide +kernel
theorem ar137 : arity (ynT 137) 2 := by unfold arity; decide +kernel
theorem ar138 : arity (ynT 138) 1 := by unfold arity; decide +kernel
theorem ar139 : arity (ynT 139) 0 := by unfold arity; decide +kernel
theorem ar140 : arity (ynT 140) 3 := by unfold arity; decide +kernel
theorem ar141 : arity (ynT 141) 1 := by unfold arity; decide +kernel
theorem ar142 : arity (ynT 142) 2 := by unfold arity; decide +kernel
theorem ar143 : arity (ynT 143) 0 := by unfold arity; decide +kernel
theorem ar144 : arity (ynT 144) 0 := by unfold arity; decide +kernel
theorem ar145 : arity (ynT 145) 0 := by unfold arity; decide +kernel
theorem ar146 : arity (ynT 146) 2 := by unfold arity; decide +kernel
theorem ar147 : arity (ynT 147) 0 := by unfold arity; decide +kernel
theorem ar148 : arity (ynT 148) 0 := by unfold arity; decide +kernel
theorem ar149 : arity (ynT 149) 1 := by unfold arity; decide +kernel
theorem ar150 : arity (ynT 150) 0 := by unfold arity; decide +kernel
theorem ar151 : arity (ynT 151) 0 := by unfold arity; decide +kernel
theorem ar152 : arity (ynT 152) 1 := by unfold arity; decide +kernel
theorem ar153 : arity (ynT 153) 1 := by unfold arity; decide +kernel
theorem ar154 : arity (ynT 154) 3 := by unfold arity; decide +kernel
theorem ar155 : arity (ynT 155) 0 := by unfold arity; decide +kernel
theorem ar156 : arity (ynT 156) 2 := by unfold arity; decide +kernel
theorem ar157 : arity (ynT 157) 1 := by unfold arity; decide +kernel
theorem ar158 : arity (ynT 158) 0 := by unfold arity; decide +kernel
theorem ar159 : arity (ynT 159) 0 := by unfold arity; decide +kernel
theorem ar160 : arity (ynT 160) 1 := by unfold arity; decide +kernel
theorem ar161 : arity (ynT 161) 0 := by unfold arity; decide +kernel
theorem ar162 : arity (ynT 162) 1 := by unfold arity; decide +kernel
theorem ar163 : arity (ynT 163) 3 := by unfold arity; decide +kernel
theorem ar164 : arity (ynT 164) 2 := by unfold arity; decide +kernel
theorem ar165 : arity (ynT 165) 2 := by unfold arity; decide +kernel
theorem ar166 : arity (ynT 166) 1 := by unfold arity; decide +kernel
theorem ar167 : arity (ynT 167) 2 := by unfold arity; decide +kernel
theorem ar168 : arity (ynT 168) 2 := by unfold arity; decide +kernel
theorem ar169 : arity (ynT 169) 2 := by unfold arity; decide +kernel
theorem ar170 : arity (ynT 170) 1 := by unfold arity; decide +kernel
theorem ar171 : arity (ynT 171) 0 := by unfold arity; decide +kernel
theorem ar172 : arity (ynT 172) 2 := by unfold arity; decide +kernel
theorem ar173 : arity (ynT 173) 0 := by unfold arity; decide +kernel
theorem ar174 : arity (ynT 174) 2 := by unfold arity; decide +kernel
theorem ar175 : arity (ynT 175) 2 := by unfold arity; decide +kernel
theorem ar176 : arity (ynT 176) 2 := by unfold arity; decide +kernel
theorem ar177 : arity (ynT 177) 2 := by unfold arity; decide +kernel
theorem ar178 : arity (ynT 178) 1 := by unfold arity; decide +kernel
theorem ar179 : arity (ynT 179) 1 := by unfold arity; decide +kernel
theorem ar180 : arity (ynT 180) 2 := by unfold arity; decide +kernel
theorem ar181 : arity (ynT 181) 1 := by unfold arity; decide +kernel
theorem ar182 : arity (ynT 182) 0 := by unfold arity; decide +kernel
theorem ar183 : arity (ynT 183) 1 := by unfold arity; decide +kernel
theorem ar184 : arity (ynT 184) 1 := by unfold arity; decide +kernel
theorem ar185 : arity (ynT 185) 1 := by unfold arity; decide +kernel
theorem ar186 : arity (ynT 186) 1 := by unfold arity; decide +kernel
theorem ar187 : arity (ynT 187) 3 := by unfold arity; decide +kernel
theorem ar188 : arity (ynT 188) 1 := by unfold arity; decide +kernel
theorem ar189 : arity (ynT 189) 1 := by unfold arity; decide +kernel
theorem ar190 : arity (ynT 190) 2 := by unfold arity; decide +kernel
theorem ar191 : arity (ynT 191) 3 := by unfold arity; decide +kernel
theorem ar192 : arity (ynT 192) 1 := by unfold arity; decide +kernel
theorem ar193 : arity (ynT 193) 1 := by unfold arity; decide +kernel
theorem ar194 : arity (ynT 194) 1 := by unfold arity; decide +kernel
theorem ar195 : arity (ynT 195) 0 := by unfold arity; decide +kernel
theorem ar196 : arity (ynT 196) 2 := by unfold arity; decide +kernel
theorem ar197 : arity (ynT 197) 2 := by unfold arity; decide +kernel
theorem ar198 : arity (ynT 198) 1 := by unfold arity; decide +kernel
theorem ar199 : arity (ynT 199) 2 := by unfold arity; decide +kernel
theorem ar200 : arity (ynT 200) 2 := by unfold arity; decide +kernel
theorem ar201 : arity (ynT 201) 1 := by unfold arity; decide +kernel
theorem ar202 : arity (ynT 202) 1 := by unfold arity; decide +kernel
theorem ar203 : arity (ynT 203) 1 := by unfold arity; decide +kernel
theorem ar204 : arity (ynT 204) 2 := by unfold arity; decide +kernel
theorem ar205 : arity (ynT 205) 2 := by unfold arity; decide +kernel
theorem ar206 : arity (ynT 206) 1 := by unfold arity; decide +kernel
theorem ar207 : arity (ynT 207) 0 := by unfold arity; decide +kernel
theorem ar208 : arity (ynT 208) 2 := by unfold arity; decide +kernel
theorem ar209 : arity (ynT 209) 1 := by unfold arity; decide +kernel
theorem ar210 : arity (ynT 210) 2 := by unfold arity; decide +kernel
theorem ar211 : arity (ynT 211) 1 := by unfold arity; decide +kernel
theorem ar212 : arity (ynT 212) 1 := by unfold arity; decide +kernel
theorem ar213 : arity (ynT 213) 1 := by unfold arity; decide +kernel
theorem ar214 : arity (ynT 214) 2 := by unfold arity; decide +kernel
theorem ar215 : arity (ynT 215) 1 := by unfold arity; decide +kernel
theorem ar216 : arity (ynT 216) 2 := by unfold arity; decide +kernel
theorem ar217 : arity (ynT 217) 2 := by unfold arity; decide +kernel
theorem ar218 : arity (ynT 218) 0 := by unfold arity; decide +kernel
theorem ar219 : arity (ynT 219) 2 := by unfold arity; decide +kernel
theorem ar220 : arity (ynT 220) 1 := by unfold arity; decide +kernel
theorem ar221 : arity (ynT 221) 2 := by unfold arity; decide +kernel
theorem ar222 : arity (ynT 222) 2 := by unfold arity; decide +kernel
theorem ar223 : arity (ynT 223) 1 := by unfold arity; decide +kernel
theorem ar224 : arity (ynT 224) 0 := by unfold arity; decide +kernel
theorem ar225 : arity (ynT 225) 2 := by unfold arity; decide +kernel
theorem ar226 : arity (ynT 226) 0 := by unfold arity; decide +kernel
theorem ar227 : arity (ynT 227) 2 := by unfold arity; decide +kernel
theorem ar228 : arity (ynT 228) 1 := by unfold arity; decide +kernel
theorem ar229 : arity (ynT 229) 1 := by unfold arity; decide +kernel
theorem ar230 : arity (ynT 230) 1 := by unfold arity; decide +kernel
theorem ar231 : arity (ynT 231) 1 := by unfold arity; decide +kernel
theorem ar232 : arity (ynT 232) 1 := by unfold arity; decide +kernel
theorem ar233 : arity (ynT 233) 0 := by unfold arity; decide +kernel
theorem ar234 : arity (ynT 234) 0 := by unfold arity; decide +kernel
theorem ar235 : arity (ynT 235) 1 := by unfold arity; decide +kernel
theorem ar236 : arity (ynT 236) 1 := by unfold arity; decide +kernel
theorem ar237 : arity (ynT 237) 0 := by unfold arity; decide +kernel
theorem ar238 : arity (ynT 238) 0 := by unfold arity; decide +kernel
theorem ar239 : arity (ynT 239) 1 := by unfold arity; decide +kernel
theorem ar240 : arity (ynT 240) 2 := by unfold arity; decide +kernel
theorem ar241 : arity (ynT 241) 0 := by unfold arity; decide +kernel
theorem ar242 : arity (ynT 242) 1 := by unfold arity; decide +kernel
theorem ar243 : arity (ynT 243) 2 := by unfold arity; decide +kernel
theorem ar244 : arity (ynT 244) 2 := by unfold arity; decide +kernel
theorem ar245 : arity (ynT 245) 2 := by unfold arity; decide +kernel
theorem ar246 : arity (ynT 246) 3 := by unfold arity; decide +kernel
theorem ar247 : arity (ynT 247) 1 := by unfold arity; decide +kernel
theorem ar248 : arity (ynT 248) 1 := by unfold arity; decide +kernel
theorem ar249 : arity (ynT 249) 1 := by unfold arity; decide +kernel
theorem ar250 : arity (ynT 250) 0 := by unfold arity; decide +kernel
theorem ar251 : arity (ynT 251) 5 := by unfold arity; decide +kernel
theorem ar252 : arity (ynT 252) 1 := by unfold arity; decide +kernel
theorem ar253 : arity (ynT 253) 0 := by unfold arity; decide +kernel
theorem ar254 : arity (ynT 254) 0 := by unfold arity; decide +kernel
theorem ar255 : arity (ynT 255) 1 := by unfold arity; decide +kernel
theorem ar256 : arity (ynT 256) 1 := by unfold arity; decide +kernel
theorem ar257 : arity (ynT 257) 0 := by unfold arity; decide +kernel
theorem ar258 : arity (ynT 258) 0 := by unfold arity; decide +kernel
theorem ar259 : arity (ynT 259) 0 := by unfold arity; decide +kernel
theorem ar260 : arity (ynT 260) 1 := by unfold arity; decide +kernel
theorem ar261 : arity (ynT 261) 0 := by unfold arity; decide +kernel
theorem ar262 : arity (ynT 262) 2 := by unfold arity; decide +kernel
theorem ar263 : arity (ynT 263) 0 := by unfold arity; decide +kernel
theorem ar264 : arity (ynT 264) 2 := by unfold arity; decide +kernel
theorem ar265 : arity (ynT 265) 0 := by unfold arity; decide +kernel
theorem ar266 : arity (ynT 266) 3 := by unfold arity; decide +kernel
theorem ar267 : arity (ynT 267) 0 := by unfold arity; decide +kernel
theorem ar268 : arity (ynT 268) 2 := by unfold arity; decide +kernel
theorem ar269 : arity (ynT 269) 0 := by unfold arity; decide +kernel
theorem ar270 : arity (ynT 270) 2 := by unfold arity; decide +kernel
theorem ar271 : arity (ynT 271) 1 := by unfold arity; decide +kernel
theorem ar272 : arity (ynT 272) 0 := by unfold arity; decide +kernel
theorem ar273 : arity (ynT 273) 1 := by unfold arity; decide +kernel
theorem ar274 : arity (ynT 274) 0 := by unfold arity; decide +kernel
theorem ar275 : arity (ynT 275) 0 := by unfold arity; decide +kernel
theorem ar276 : arity (ynT 276) 1 := by unfold arity; decide +kernel
theorem ar277 : arity (ynT 277) 0 := by unfold arity; decide +kernel
theorem ar278 : arity (ynT 278) 1 := by unfold arity; decide +kernel
theorem ar279 : arity (ynT 279) 1 := by unfold arity; decide +kernel
theorem ar280 : arity (ynT 280) 1 := by unfold arity; decide +kernel
theorem ar281 : arity (ynT 281) 1 := by unfold arity; decide +kernel
theorem ar282 : arity (ynT 282) 0 := by unfold arity; decide +kernel
theorem ar283 : arity (ynT 283) 1 := by unfold arity; decide +kernel
theorem ar284 : arity (ynT 284) 0 := by unfold arity; decide +kernel
theorem ar285 : arity (ynT 285) 0 := by unfold arity; decide +kernel
theorem ar286 : arity (ynT 286) 0 := by unfold arity; decide +kernel
theorem ar287 : arity (ynT 287) 2 := by unfold arity; decide +kernel
theorem ar288 : arity (ynT 288) 1 := by unfold arity; decide +kernel
theorem ar289 : arity (ynT 289) 0 := by unfold arity; decide +kernel
theorem ar290 : arity (ynT 290) 1 := by unfold arity; decide +kernel
theorem ar291 : arity (ynT 291) 0 := by unfold arity; decide +kernel
theorem ar292 : arity (ynT 292) 2 := by unfold arity; decide +kernel
theorem ar293 : arity (ynT 293) 0 := by unfold arity; decide +kernel
theorem ar294 : arity (ynT 294) 1 := by unfold arity; decide +kernel
theorem ar295 : arity (ynT 295) 0 := by unfold arity; decide +kernel
theorem ar296 : arity (ynT 296) 0 := by unfold arity; decide +kernel
theorem ar297 : arity (ynT 297) 2 := by unfold arity; decide +kernel
theorem ar298 : arity (ynT 298) 2 := by unfold arity; decide +kernel
theorem ar299 : arity (ynT 299) 5 := by unfold arity; decide +kernel
theorem ar300 : arity (ynT 300) 2 := by unfold arity; decide +kernel
theorem ar301 : arity (ynT 301) 2 := by unfold arity; decide +kernel
theorem ar302 : arity (ynT 302) 1 := by unfold arity; decide +kernel
theorem ar303 : arity (ynT 303) 3 := by unfold arity; decide +kernel
theorem ar304 : arity (ynT 304) 3 := by unfold arity; decide +kernel
theorem ar305 : arity (ynT 305) 3 := by unfold arity; decide +kernel
theorem ar306 : arity (ynT 306) 1 := by unfold arity; decide +kernel
theorem ar307 : arity (ynT 307) 1 := by unfold arity; decide +kernel
theorem ar308 : arity (ynT 308) 0 := by unfold arity; decide +kernel
theorem ar309 : arity (ynT 309) 1 := by unfold arity; decide +kernel
theorem ar310 : arity (ynT 310) 0 := by unfold arity; decide +kernel
theorem ar311 : arity (ynT 311) 0 := by unfold arity; decide +kernel
theorem ar312 : arity (ynT 312) 0 := by unfold arity; decide +kernel
theorem ar313 : arity (ynT 313) 0 := by unfold arity; decide +kernel
theorem ar314 : arity (ynT 314) 1 := by unfold arity; decide +kernel
theorem ar315 : arity (ynT 315) 3 := by unfold arity; decide +kernel
theorem ar316 : arity (ynT 316) 0 := by unfold arity; decide +kernel
theorem ar317 : arity (ynT 317) 1 := by unfold arity; decide +kernel
theorem ar318 : arity (ynT 318) 1 := by unfold arity; decide +kernel
theorem ar319 : arity (ynT 319) 0 := by unfold arity; decide +kernel
theorem ar320 : arity (ynT 320) 0 := by unfold arity; decide +kernel
theorem ar321 : arity (ynT 321) 1 := by unfold arity; decide +kernel
theorem ar322 : arity (ynT 322) 1 := by unfold arity; decide +kernel
theorem ar323 : arity (ynT 323) 3 := by unfold arity; decide +kernel
theorem ar324 : arity (ynT 324) 0 := by unfold arity; decide +kernel
theorem ar325 : arity (ynT 325) 1 := by unfold arity; decide +kernel
theorem ar326 : arity (ynT 326) 1 := by unfold arity; decide +kernel
theorem ar327 : arity (ynT 327) 1 := by unfold arity; decide +kernel
theorem ar328 : arity (ynT 328) 2 := by unfold arity; decide +kernel
theorem ar329 : arity (ynT 329) 0 := by unfold arity; decide +kernel
theorem ar330 : arity (ynT 330) 0 := by unfold arity; decide +kernel
theorem ar331 : arity (ynT 331) 1 := by unfold arity; decide +kernel
theorem ar332 : arity (ynT 332) 1 := by unfold arity; decide +kernel
theorem ar333 : arity (ynT 333) 0 := by unfold arity; decide +kernel
theorem ar334 : arity (ynT 334) 1 := by unfold arity; decide +kernel
theorem ar335 : arity (ynT 335) 1 := by unfold arity; decide +kernel
theorem ar336 : arity (ynT 336) 1 := by unfold arity; decide +kernel
theorem ar337 : arity (ynT 337) 0 := by unfold arity; decide +kernel
theorem ar338 : arity (ynT 338) 0 := by unfold arity; decide +kernel
theorem ar339 : arity (ynT 339) 0 := by unfold arity; decide +kernel
theorem ar340 : arity (ynT 340) 1 := by unfold arity; decide +kernel
theorem ar341 : arity (ynT 341) 1 := by unfold arity; decide +kernel
theorem ar342 : arity (ynT 342) 0 := by unfold arity; decide +kernel
theorem ar343 : arity (ynT 343) 2 := by unfold arity; decide +kernel
theorem ar344 : arity (ynT 344) 1 := by unfold arity; decide +kernel
theorem ar345 : arity (ynT 345) 1 := by unfold arity; decide +kernel
theorem ar346 : arity (ynT 346) 1 := by unfold arity; decide +kernel
theorem ar347 : arity (ynT 347) 0 := by unfold arity; decide +kernel
theorem ar348 : arity (ynT 348) 1 := by unfold arity; decide +kernel
theorem ar349 : arity (ynT 349) 1 := by unfold arity; decide +kernel
theorem ar350 : arity (ynT 350) 1 := by unfold arity; decide +kernel
theorem ar351 : arity (ynT 351) 0 := by unfold arity; decide +kernel
theorem ar352 : arity (ynT 352) 0 := by unfold arity; decide +kernel
theorem ar353 : arity (ynT 353) 1 := by unfold arity; decide +kernel
theorem ar354 : arity (ynT 354) 1 := by unfold arity; decide +kernel
theorem ar355 : arity (ynT 355) 1 := by unfold arity; decide +kernel
theorem ar356 : arity (ynT 356) 1 := by unfold arity; decide +kernel
theorem ar357 : arity (ynT 357) 1 := by unfold arity; decide +kernel
theorem ar358 : arity (ynT 358) 1 := by unfold arity; decide +kernel
theorem ar359 : arity (ynT 359) 0 := by unfold arity; decide +kernel
theorem ar360 : arity (ynT 360) 2 := by unfold arity; decide +kernel
theorem ar362 : arity (ynT 362) 2 := by unfold arity; decide +kernel
theorem ar363 : arity (ynT 363) 1 := by unfold arity; decide +kernel
theorem ar364 : arity (ynT 364) 2 := by unfold arity; decide +kernel
theorem ar366 : arity (ynT 366) 0 := by unfold arity; decide +kernel
theorem ar367 : arity (ynT 367) 3 := by unfold arity; decide +kernel
theorem ar368 : arity (ynT 368) 0 := by unfold arity; decide +kernel
theorem ar369 : arity (ynT 369) 0 := by unfold arity; decide +kernel
theorem ar370 : arity (ynT 370) 1 := by unfold arity; decide +kernel
theorem ar371 : arity (ynT 371) 1 := by unfold arity; decide +kernel
theorem ar397 : arity (ynT 397) 0 := by unfold arity; decide +kernel
theorem ar398 : arity (ynT 398) 0 := by unfold arity; decide +kernel
theorem ar399 : arity (ynT 399) 0 := by unfold arity; decide +kernel
theorem ar400 : arity (ynT 400) 2 := by unfold arity; decide +kernel
theorem ar401 : arity (ynT 401) 3 := by unfold arity; decide +kernel
theorem ar402 : arity (ynT 402) 2 := by unfold arity; decide +kernel
theorem ar403 : arity (ynT 403) 2 := by unfold arity; decide +kernel
theorem ar404 : arity (ynT 404) 4 := by unfold arity; decide +kernel
theorem ar405 : arity (ynT 405) 1 := by unfold arity; decide +kernel
theorem ar406 : arity (ynT 406) 1 := by unfold arity; decide +kernel
theorem ar407 : arity (ynT 407) 1 := by unfold arity; decide +kernel
theorem ar408 : arity (ynT 408) 1 := by unfold arity; decide +kernel
theorem ar409 : arity (ynT 409) 1 := by unfold arity; decide +kernel
theorem ar410 : arity (ynT 410) 2 := by unfold arity; decide +kernel
theorem ar411 : arity (ynT 411) 1 := by unfold arity; decide +kernel
theorem ar412 : arity (ynT 412) 1 := by unfold arity; decide +kernel
theorem ar413 : arity (ynT 413) 1 := by unfold arity; decide +kernel
theorem ar414 : arity (ynT 414) 1 := by unfold arity; decide +kernel
theorem ar415 : arity (ynT 415) 1 := by unfold arity; decide +kernel
theorem ar416 : arity (ynT 416) 1 := by unfold arity; decide +kernel
theorem ar417 : arity (ynT 417) 3 := by unfold arity; decide +kernel
theorem ar419 : arity (ynT 419) 3 := by unfold arity; decide +kernel
theorem ar421 : arity (ynT 421) 5 := by unfold arity; decide +kernel
theorem ar430 : arity (ynT 430) 2 := by unfold arity; decide +kernel
theorem ar431 : arity (ynT 431) 3 := by unfold arity; decide +kernel
theorem ar432 : arity (ynT 432) 2 := by unfold arity; decide +kernel
theorem ar433 : arity (ynT 433) 3 := by unfold arity; decide +kernel
theorem ar434 : arity (ynT 434) 3 := by unfold arity; decide +kernel
theorem ar435 : arity (ynT 435) 2 := by unfold arity; decide +kernel
theorem ar436 : arity (ynT 436) 2 := by unfold arity; decide +kernel
theorem ar437 : arity (ynT 437) 4 := by unfold arity; decide +kernel
theorem ar438 : arity (ynT 438) 3 := by unfold arity; decide +kernel
theorem ar439 : arity (ynT 439) 0 := by unfold arity; decide +kernel
theorem ar440 : arity (ynT 440) 1 := by unfold arity; decide +kernel
theorem ar441 : arity (ynT 441) 1 := by unfold arity; decide +kernel
theorem ar442 : arity (ynT 442) 1 := by unfold arity; decide +kernel
theorem ar443 : arity (ynT 443) 1 := by unfold arity; decide +kernel
theorem ar444 : arity (ynT 444) 2 := by unfold arity; decide +kernel
theorem ar447 : arity (ynT 447) 1 := by unfold arity; decide +kernel
theorem ar448 : arity (ynT 448) 3 := by unfold arity; decide +kernel
theorem ar449 : arity (ynT 449) 1 := by unfold arity; decide +kernel
theorem ar450 : arity (ynT 450) 0 := by unfold arity; decide +kernel
theorem ar451 : arity (ynT 451) 2 := by unfold arity; decide +kernel
theorem ar452 : arity (ynT 452) 4 := by unfold arity; decide +kernel
theorem ar453 : arity (ynT 453) 2 := by unfold arity; decide +kernel
theorem ar454 : arity (ynT 454) 2 := by unfold arity; decide +kernel
theorem ar455 : arity (ynT 455) 1 := by unfold arity; decide +kernel
theorem ar456 : arity (ynT 456) 4 := by unfold arity; decide +kernel
theorem ar457 : arity (ynT 457) 4 := by unfold arity; decide +kernel
theorem ar458 : arity (ynT 458) 1 := by unfold arity; decide +kernel
theorem ar459 : arity (ynT 459) 5 := by unfold arity; decide +kernel
theorem ar460 : arity (ynT 460) 1 := by unfold arity; decide +kernel
theorem ar461 : arity (ynT 461) 2 := by unfold arity; decide +kernel
theorem ar462 : arity (ynT 462) 3 := by unfold arity; decide +kernel
theorem ar463 : arity (ynT 463) 2 := by unfold arity; decide +kernel
theorem ar479 : arity (ynT 479) 4 := by unfold arity; decide +kernel
theorem ar481 : arity (ynT 481) 3 := by unfold arity; decide +kernel
theorem ar482 : arity (ynT 482) 3 := by unfold arity; decide +kernel
theorem ar483 : arity (ynT 483) 1 := by unfold arity; decide +kernel
theorem ar484 : arity (ynT 484) 2 := by unfold arity; decide +kernel
theorem ar485 : arity (ynT 485) 2 := by unfold arity; decide +kernel
theorem ar486 : arity (ynT 486) 1 := by unfold arity; decide +kernel
theorem ar487 : arity (ynT 487) 1 := by unfold arity; decide +kernel
theorem ar488 : arity (ynT 488) 1 := by unfold arity; decide +kernel
theorem ar489 : arity (ynT 489) 1 := by unfold arity; decide +kernel
theorem ar490 : arity (ynT 490) 0 := by unfold arity; decide +kernel
theorem ar491 : arity (ynT 491) 0 := by unfold arity; decide +kernel
theorem ar492 : arity (ynT 492) 0 := by unfold arity; decide +kernel
theorem ar493 : arity (ynT 493) 1 := by unfold arity; decide +kernel
theorem ar495 : arity (ynT 495) 1 := by unfold arity; decide +kernel
theorem ar496 : arity (ynT 496) 0 := by unfold arity; decide +kernel
theorem ar499 : arity (ynT 499) 1 := by unfold arity; decide +kernel
theorem ar500 : arity (ynT 500) 2 := by unfold arity; decide +kernel
theorem ar504 : arity (ynT 504) 0 := by unfold arity; decide +kernel
theorem ar505 : arity (ynT 505) 0 := by unfold arity; decide +kernel
theorem ar506 : arity (ynT 506) 2 := by unfold arity; decide +kernel
theorem ar507 : arity (ynT 507) 1 := by unfold arity; decide +kernel
theorem ar508 : arity (ynT 508) 1 := by unfold arity; decide +kernel
theorem ar509 : arity (ynT 509) 0 := by unfold arity; decide +kernel
theorem ar510 : arity (ynT 510) 0 := by unfold arity; decide +kernel
theorem ar511 : arity (ynT 511) 1 := by unfold arity; decide +kernel
theorem ar512 : arity (ynT 512) 1 := by unfold arity; decide +kernel
theorem ar513 : arity (ynT 513) 1 := by unfold arity; decide +kernel
theorem ar514 : arity (ynT 514) 0 := by unfold arity; decide +kernel
theorem ar515 : arity (ynT 515) 1 := by unfold arity; decide +kernel
theorem ar516 : arity (ynT 516) 1 := by unfold arity; decide +kernel
theorem ar517 : arity (ynT 517) 1 := by unfold arity; decide +kernel
theorem ar520 : arity (ynT 520) 4 := by unfold arity; decide +kernel
theorem ar522 : arity (ynT 522) 4 := by unfold arity; decide +kernel
theorem ar532 : arity (ynT 532) 1 := by unfold arity; decide +kernel
theorem ar533 : arity (ynT 533) 0 := by unfold arity; decide +kernel
theorem ar534 : arity (ynT 534) 0 := by unfold arity; decide +kernel
theorem ar535 : arity (ynT 535) 0 := by unfold arity; decide +kernel
theorem ar540 : arity (ynT 540) 0 := by unfold arity; decide +kernel
theorem ar541 : arity (ynT 541) 0 := by unfold arity; decide +kernel
theorem ar542 : arity (ynT 542) 0 := by unfold arity; decide +kernel
theorem ar543 : arity (ynT 543) 1 := by unfold arity; decide +kernel
theorem ar544 : arity (ynT 544) 2 := by unfold arity; decide +kernel
theorem ar545 : arity (ynT 545) 1 := by unfold arity; decide +kernel
theorem ar546 : arity (ynT 546) 1 := by unfold arity; decide +kernel
theorem ar547 : arity (ynT 547) 1 := by unfold arity; decide +kernel
theorem ar548 : arity (ynT 548) 2 := by unfold arity; decide +kernel
theorem ar549 : arity (ynT 549) 4 := by unfold arity; decide +kernel
theorem ar550 : arity (ynT 550) 3 := by unfold arity; decide +kernel
theorem ar551 : arity (ynT 551) 0 := by unfold arity; decide +kernel
theorem ar552 : arity (ynT 552) 0 := by unfold arity; decide +kernel
theorem ar553 : arity (ynT 553) 4 := by unfold arity; decide +kernel
theorem ar554 : arity (ynT 554) 5 := by unfold arity; decide +kernel
theorem ce1 : CE PP ynT ybT yrT yhT 1 := ⟨⟨pln_12, Or.inr q2237⟩, Nat.le_of_ble_eq_true rfl, npl_12⟩
theorem ce2 : CE PP ynT ybT yrT yhT 2 := ⟨⟨pln_12, Or.inr q2377⟩, Nat.le_of_ble_eq_true rfl, npl_12⟩
theorem ce3 : CE PP ynT ybT yrT yhT 3 := ⟨⟨pln_12, Or.inr q2393⟩, Nat.le_of_ble_eq_true rfl, npl_12⟩
theorem ce4 : CE PP ynT ybT yrT yhT 4 := ⟨⟨pln_12, Or.inr q2400⟩, Nat.le_of_ble_eq_true rfl, npl_12⟩
theorem ce5 : CE PP ynT ybT yrT yhT 5 := ⟨⟨pln_12, Or.inr q2407⟩, Nat.le_of_ble_eq_true rfl, npl_12⟩
theorem ce6 : CE PP ynT ybT yrT yhT 6 := ⟨⟨pln_12, Or.inr q2433⟩, Nat.le_of_ble_eq_true rfl, npl_12⟩
theorem ce7 : CE PP ynT ybT yrT yhT 7 := ⟨⟨pln_12, Or.inr q2529⟩, Nat.le_of_ble_eq_true rfl, npl_12⟩
theorem ce8 : CE PP ynT ybT yrT yhT 8 := ⟨⟨pln_12, Or.inr q2537⟩, Nat.le_of_ble_eq_true rfl, npl_12⟩
theorem ce9 : CE PP ynT ybT yrT yhT 9 := ⟨⟨pln_12, Or.inr q2544⟩, Nat.le_of_ble_eq_true rfl, npl_12⟩
theorem ce10 : CE PP ynT ybT yrT yhT 10 := ⟨⟨pln_12, Or.inr q2551⟩, Nat.le_of_ble_eq_true rfl, npl_12⟩
theorem ce11 : CE PP ynT ybT yrT yhT 11 := ⟨⟨pln_12, Or.inr q2559⟩, Nat.le_of_ble_eq_true rfl, npl_12⟩
theorem ce12 : CE PP ynT ybT yrT yhT 12 := ⟨⟨pln_12, Or.inr q2566⟩, Nat.le_of_ble_eq_true rfl, npl_12⟩
theorem ce13 : CE PP ynT ybT yrT yhT 13 := ⟨⟨pln_12, Or.inr q2577⟩, Nat.le_of_ble_eq_true rfl, npl_12⟩
theorem ce14 : CE PP ynT ybT yrT yhT 14 := ⟨⟨pln_12, Or.inr q2584⟩, Nat.le_of_ble_eq_true rfl, npl_12⟩
theorem ce15 : CE PP ynT ybT yrT yhT 15 := ⟨⟨pln_12, Or.inr q2594⟩, Nat.le_of_ble_eq_true rfl, npl_12⟩
theorem ce16 : CE PP ynT ybT yrT yhT 16 := ⟨⟨pln_12, Or.inr q2605⟩, Nat.le_of_ble_eq_true rfl, npl_12⟩
theorem ce17 : CE PP ynT ybT yrT yhT 17 := ⟨⟨pln_12, Or.inr q2629⟩, Nat.le_of_ble_eq_true rfl, npl_12⟩
theorem ce18 : CE PP ynT ybT yrT yhT 18 := ⟨⟨pln_12, Or.inr q2636⟩, Nat.le_of_ble_eq_true rfl, npl_12⟩
theorem ce19 : CE PP ynT ybT yrT yhT 19 := ⟨⟨pln_12, Or.inr q2643⟩, Nat.le_of_ble_eq_true rfl, npl_12⟩
theorem ce20 : CE PP ynT ybT yrT yhT 20 := ⟨⟨pln_12, Or.inr q2666⟩, Nat.le_of_ble_eq_true rfl, npl_12⟩
theorem ce21 : CE PP ynT ybT yrT yhT 21 := ⟨⟨pln_12, Or.inr q2693⟩, Nat.le_of_ble_eq_true rfl, npl_12⟩
theorem ce22 : CE PP ynT ybT yrT yhT 22 := ⟨⟨pln_12, Or.inr q2702⟩, Nat.le_of_ble_eq_true rfl, npl_12⟩
theorem ce23 : CE PP ynT ybT yrT yhT 23 := ⟨⟨pln_12, Or.inr q2714⟩, Nat.le_of_ble_eq_true rfl, npl_12⟩
theorem ce24 : CE PP ynT ybT yrT yhT 24 := ⟨⟨pln_12, Or.inr q2730⟩, Nat.le_of_ble_eq_true rfl, npl_12⟩
theorem ce25 : CE PP ynT ybT yrT yhT 25 := ⟨⟨pln_12, Or.inr q2737⟩, Nat.le_of_ble_eq_true rfl, npl_12⟩
theorem ce26 : CE PP ynT ybT yrT yhT 26 := ⟨⟨pln_12, Or.inr q2744⟩, Nat.le_of_ble_eq_true rfl, npl_12⟩
theorem ce27 : CE PP ynT ybT yrT yhT 27 := ⟨⟨pln_12, Or.inr q2751⟩, Nat.le_of_ble_eq_true rfl, npl_12⟩
theorem ce28 : CE PP ynT ybT yrT yhT 28 := ⟨⟨pln_12, Or.inr q2777⟩, Nat.le_of_ble_eq_true rfl, npl_12⟩
theorem ce29 : CE PP ynT ybT yrT yhT 29 := ⟨⟨pln_12, Or.inr q2784⟩, Nat.le_of_ble_eq_true rfl, npl_12⟩
theorem ce30 : CE PP ynT ybT yrT yhT 30 := ⟨⟨pln_12, Or.inr q2791⟩, Nat.le_of_ble_eq_true rfl, npl_12⟩
theorem ce31 : CE PP ynT ybT yrT yhT 31 := ⟨⟨pln_12, Or.inr q2799⟩, Nat.le_of_ble_eq_true rfl, npl_12⟩
theorem ce32 : CE PP ynT ybT yrT yhT 32 := ⟨⟨pln_12, Or.inr q2806⟩, Nat.le_of_ble_eq_true rfl, npl_12⟩
theorem ce33 : CE PP ynT ybT yrT yhT 33 := ⟨⟨pln_12, Or.inr q2820⟩, Nat.le_of_ble_eq_true rfl, npl_12⟩
theorem ce34 : CE PP ynT ybT yrT yhT 34 := ⟨⟨pln_12, Or.inr q2827⟩, Nat.le_of_ble_eq_true rfl, npl_12⟩
theorem ce35 : CE PP ynT ybT yrT yhT 35 := ⟨⟨pln_0, Or.inl ⟨rfl, q189⟩⟩, Nat.le_of_ble_eq_true rfl, npl_0⟩
theorem ce36 : CE PP ynT ybT yrT yhT 36 := ⟨⟨pln_0, Or.inl ⟨rfl, q1131⟩⟩, Nat.le_of_ble_eq_true rfl, npl_0⟩
theorem ce37 : CE PP ynT ybT yrT yhT 37 := ⟨⟨pln_0, Or.inl ⟨rfl, q1135⟩⟩, Nat.le_of_ble_eq_true rfl, npl_0⟩
theorem ce38 : CE PP ynT ybT yrT yhT 38 := ⟨⟨pln_0, Or.inl ⟨rfl, q1139⟩⟩, Nat.le_of_ble_eq_true rfl, npl_0⟩
theorem ce39 : CE PP ynT ybT yrT yhT 39 := ⟨⟨pln_0, Or.inl ⟨rfl, q1142⟩⟩, Nat.le_of_ble_eq_true rfl, npl_0⟩
theorem ce40 : CE PP ynT ybT yrT yhT 40 := ⟨⟨pln_0, Or.inr q1146⟩, Nat.le_of_ble_eq_true rfl, npl_0⟩
theorem ce41 : CE PP ynT ybT yrT yhT 41 := ⟨⟨pln_0, Or.inl ⟨rfl, q1910⟩⟩, Nat.le_of_ble_eq_true rfl, npl_0⟩
theorem ce42 : CE PP ynT ybT yrT yhT 42 := ⟨⟨pln_0, Or.inl ⟨rfl, q1914⟩⟩, Nat.le_of_ble_eq_true rfl, npl_0⟩
theorem ce43 : CE PP ynT ybT yrT yhT 43 := ⟨⟨pln_0, Or.inl ⟨rfl, q1918⟩⟩, Nat.le_of_ble_eq_true rfl, npl_0⟩
theorem ce44 : CE PP ynT ybT yrT yhT 44 := ⟨⟨pln_0, Or.inl ⟨rfl, q1922⟩⟩, Nat.le_of_ble_eq_true rfl, npl_0⟩
theorem ce45 : CE PP ynT ybT yrT yhT 45 := ⟨⟨pln_0, Or.inl ⟨rfl, q1937⟩⟩, Nat.le_of_ble_eq_true rfl, npl_0⟩
theorem ce46 : CE PP ynT ybT yrT yhT 46 := ⟨⟨pln_0, Or.inl ⟨rfl, q1946⟩⟩, Nat.le_of_ble_eq_true rfl, npl_0⟩
theorem ce47 : CE PP ynT ybT yrT yhT 47 := ⟨⟨pln_0, Or.inl ⟨rfl, q1950⟩⟩, Nat.le_of_ble_eq_true rfl, npl_0⟩
theorem ce48 : CE PP ynT ybT yrT yhT 48 := ⟨⟨pln_0, Or.inl ⟨rfl, q1979⟩⟩, Nat.le_of_ble_eq_true rfl, npl_0⟩
theorem ce49 : CE PP ynT ybT yrT yhT 49 := ⟨⟨pln_0, Or.inl ⟨rfl, q1984⟩⟩, Nat.le_of_ble_eq_true rfl, npl_0⟩
theorem ce50 : CE PP ynT ybT yrT yhT 50 := ⟨⟨pln_0, Or.inl ⟨rfl, q1988⟩⟩, Nat.le_of_ble_eq_true rfl, npl_0⟩
theorem ce51 : CE PP ynT ybT yrT yhT 51 := ⟨⟨pln_0, Or.inl ⟨rfl, q1992⟩⟩, Nat.le_of_ble_eq_true rfl, npl_0⟩
theorem ce52 : CE PP ynT ybT yrT yhT 52 := ⟨⟨pln_0, Or.inl ⟨rfl, q2144⟩⟩, Nat.le_of_ble_eq_true rfl, npl_0⟩
theorem ce53 : CE PP ynT ybT yrT yhT 53 := ⟨⟨pln_0, Or.inl ⟨rfl, q2220⟩⟩, Nat.le_of_ble_eq_true rfl, npl_0⟩
theorem ce54 : CE PP ynT ybT yrT yhT 54 := ⟨⟨pln_0, Or.inl ⟨rfl, q2234⟩⟩, Nat.le_of_ble_eq_true rfl, npl_0⟩
theorem ce55 : CE PP ynT ybT yrT yhT 55 := ⟨⟨pln_0, Or.inl ⟨rfl, q2244⟩⟩, Nat.le_of_ble_eq_true rfl, npl_0⟩
theorem ce56 : CE PP ynT ybT yrT yhT 56 := ⟨⟨pln_0, Or.inl ⟨rfl, q2248⟩⟩, Nat.le_of_ble_eq_true rfl, npl_0⟩
theorem ce57 : CE PP ynT ybT yrT yhT 57 := ⟨⟨pln_0, Or.inl ⟨rfl, q2251⟩⟩, Nat.le_of_ble_eq_true rfl, npl_0⟩
theorem ce58 : CE PP ynT ybT yrT yhT 58 := ⟨⟨pln_0, Or.inl ⟨rfl, q2266⟩⟩, Nat.le_of_ble_eq_true rfl, npl_0⟩
theorem ce59 : CE PP ynT ybT yrT yhT 59 := ⟨⟨pln_0, Or.inl ⟨rfl, q2381⟩⟩, Nat.le_of_ble_eq_true rfl, npl_0⟩
theorem ce60 : CE PP ynT ybT yrT yhT 60 := ⟨⟨pln_0, Or.inl ⟨rfl, q2385⟩⟩, Nat.le_of_ble_eq_true rfl, npl_0⟩
theorem ce61 : CE PP ynT ybT yrT yhT 61 := ⟨⟨pln_0, Or.inl ⟨rfl, q2389⟩⟩, Nat.le_of_ble_eq_true rfl, npl_0⟩
theorem ce62 : CE PP ynT ybT yrT yhT 62 := ⟨⟨pln_0, Or.inl ⟨rfl, q2397⟩⟩, Nat.le_of_ble_eq_true rfl, npl_0⟩
theorem ce63 : CE PP ynT ybT yrT yhT 63 := ⟨⟨pln_0, Or.inl ⟨rfl, q2404⟩⟩, Nat.le_of_ble_eq_true rfl, npl_0⟩
theorem ce64 : CE PP ynT ybT yrT yhT 64 := ⟨⟨pln_0, Or.inl ⟨rfl, q2413⟩⟩, Nat.le_of_ble_eq_true rfl, npl_0⟩
theorem ce65 : CE PP ynT ybT yrT yhT 65 := ⟨⟨pln_0, Or.inl ⟨rfl, q2416⟩⟩, Nat.le_of_ble_eq_true rfl, npl_0⟩
theorem ce66 : CE PP ynT ybT yrT yhT 66 := ⟨⟨pln_0, Or.inl ⟨rfl, q2428⟩⟩, Nat.le_of_ble_eq_true rfl, npl_0⟩
theorem ce67 : CE PP ynT ybT yrT yhT 67 := ⟨⟨pln_0, Or.inl ⟨rfl, q2437⟩⟩, Nat.le_of_ble_eq_true rfl, npl_0⟩
theorem ce68 : CE PP ynT ybT yrT yhT 68 := ⟨⟨pln_0, Or.inl ⟨rfl, q2533⟩⟩, Nat.le_of_ble_eq_true rfl, npl_0⟩
theorem ce69 : CE PP ynT ybT yrT yhT 69 := ⟨⟨pln_0, Or.inl ⟨rfl, q2541⟩⟩, Nat.le_of_ble_eq_true rfl, npl_0⟩
theorem ce70 : CE PP ynT ybT yrT yhT 70 := ⟨⟨pln_0, Or.inl ⟨rfl, q2548⟩⟩, Nat.le_of_ble_eq_true rfl, npl_0⟩
theorem ce71 : CE PP ynT ybT yrT yhT 71 := ⟨⟨pln_0, Or.inl ⟨rfl, q2555⟩⟩, Nat.le_of_ble_eq_true rfl, npl_0⟩
theorem ce72 : CE PP ynT ybT yrT yhT 72 := ⟨⟨pln_0, Or.inl ⟨rfl, q2563⟩⟩, Nat.le_of_ble_eq_true rfl, npl_0⟩
theorem ce73 : CE PP ynT ybT yrT yhT 73 := ⟨⟨pln_0, Or.inl ⟨rfl, q2570⟩⟩, Nat.le_of_ble_eq_true rfl, npl_0⟩
theorem ce74 : CE PP ynT ybT yrT yhT 74 := ⟨⟨pln_0, Or.inl ⟨rfl, q2581⟩⟩, Nat.le_of_ble_eq_true rfl, npl_0⟩
theorem ce75 : CE PP ynT ybT yrT yhT 75 := ⟨⟨pln_0, Or.inl ⟨rfl, q2588⟩⟩, Nat.le_of_ble_eq_true rfl, npl_0⟩
theorem ce76 : CE PP ynT ybT yrT yhT 76 := ⟨⟨pln_0, Or.inl ⟨rfl, q2591⟩⟩, Nat.le_of_ble_eq_true rfl, npl_0⟩
theorem ce77 : CE PP ynT ybT yrT yhT 77 := ⟨⟨pln_0, Or.inl ⟨rfl, q2598⟩⟩, Nat.le_of_ble_eq_true rfl, npl_0⟩
theorem ce78 : CE PP ynT ybT yrT yhT 78 := ⟨⟨pln_0, Or.inl ⟨rfl, q2602⟩⟩, Nat.le_of_ble_eq_true rfl, npl_0⟩
theorem ce79 : CE PP ynT ybT yrT yhT 79 := ⟨⟨pln_0, Or.inl ⟨rfl, q2609⟩⟩, Nat.le_of_ble_eq_true rfl, npl_0⟩
theorem ce80 : CE PP ynT ybT yrT yhT 80 := ⟨⟨pln_0, Or.inl ⟨rfl, q2613⟩⟩, Nat.le_of_ble_eq_true rfl, npl_0⟩
theorem ce81 : CE PP ynT ybT yrT yhT 81 := ⟨⟨pln_0, Or.inl ⟨rfl, q2617⟩⟩, Nat.le_of_ble_eq_true rfl, npl_0⟩
theorem ce82 : CE PP ynT ybT yrT yhT 82 := ⟨⟨pln_0, Or.inl ⟨rfl, q2622⟩⟩, Nat.le_of_ble_eq_true rfl, npl_0⟩
theorem ce83 : CE PP ynT ybT yrT yhT 83 := ⟨⟨pln_0, Or.inl ⟨rfl, q2633⟩⟩, Nat.le_of_ble_eq_true rfl, npl_0⟩
theorem ce84 : CE PP ynT ybT yrT yhT 84 := ⟨⟨pln_0, Or.inl ⟨rfl, q2640⟩⟩, Nat.le_of_ble_eq_true rfl, npl_0⟩
theorem ce85 : CE PP ynT ybT yrT yhT 85 := ⟨⟨pln_0, Or.inl ⟨rfl, q2647⟩⟩, Nat.le_of_ble_eq_true rfl, npl_0⟩
theorem ce86 : CE PP ynT ybT yrT yhT 86 := ⟨⟨pln_0, Or.inl ⟨rfl, q2650⟩⟩, Nat.le_of_ble_eq_true rfl, npl_0⟩
theorem ce87 : CE PP ynT ybT yrT yhT 87 := ⟨⟨pln_0, Or.inl ⟨rfl, q2654⟩⟩, Nat.le_of_ble_eq_true rfl, npl_0⟩
theorem ce88 : CE PP ynT ybT yrT yhT 88 := ⟨⟨pln_0, Or.inl ⟨rfl, q2671⟩⟩, Nat.le_of_ble_eq_true rfl, npl_0⟩
theorem ce89 : CE PP ynT ybT yrT yhT 89 := ⟨⟨pln_0, Or.inl ⟨rfl, q2674⟩⟩, Nat.le_of_ble_eq_true rfl, npl_0⟩
theorem ce90 : CE PP ynT ybT yrT yhT 90 := ⟨⟨pln_0, Or.inl ⟨rfl, q2697⟩⟩, Nat.le_of_ble_eq_true rfl, npl_0⟩
theorem ce91 : CE PP ynT ybT yrT yhT 91 := ⟨⟨pln_0, Or.inl ⟨rfl, q2706⟩⟩, Nat.le_of_ble_eq_true rfl, npl_0⟩
theorem ce92 : CE PP ynT ybT yrT yhT 92 := ⟨⟨pln_0, Or.inl ⟨rfl, q2718⟩⟩, Nat.le_of_ble_eq_true rfl, npl_0⟩
theorem ce93 : CE PP ynT ybT yrT yhT 93 := ⟨⟨pln_0, Or.inl ⟨rfl, q2734⟩⟩, Nat.le_of_ble_eq_true rfl, npl_0⟩
theorem ce94 : CE PP ynT ybT yrT yhT 94 := ⟨⟨pln_0, Or.inl ⟨rfl, q2741⟩⟩, Nat.le_of_ble_eq_true rfl, npl_0⟩
theorem ce95 : CE PP ynT ybT yrT yhT 95 := ⟨⟨pln_0, Or.inl ⟨rfl, q2748⟩⟩, Nat.le_of_ble_eq_true rfl, npl_0⟩
theorem ce96 : CE PP ynT ybT yrT yhT 96 := ⟨⟨pln_0, Or.inl ⟨rfl, q2755⟩⟩, Nat.le_of_ble_eq_true rfl, npl_0⟩
theorem ce97 : CE PP ynT ybT yrT yhT 97 := ⟨⟨pln_0, Or.inl ⟨rfl, q2781⟩⟩, Nat.le_of_ble_eq_true rfl, npl_0⟩
theorem ce98 : CE PP ynT ybT yrT yhT 98 := ⟨⟨pln_0, Or.inl ⟨rfl, q2788⟩⟩, Nat.le_of_ble_eq_true rfl, npl_0⟩
theorem ce99 : CE PP ynT ybT yrT yhT 99 := ⟨⟨pln_0, Or.inl ⟨rfl, q2795⟩⟩, Nat.le_of_ble_eq_true rfl, npl_0⟩
theorem ce100 : CE PP ynT ybT yrT yhT 100 := ⟨⟨pln_0, Or.inl ⟨rfl, q2803⟩⟩, Nat.le_of_ble_eq_true rfl, npl_0⟩
theorem ce101 : CE PP ynT ybT yrT yhT 101 := ⟨⟨pln_0, Or.inl ⟨rfl, q2810⟩⟩, Nat.le_of_ble_eq_true rfl, npl_0⟩
theorem ce102 : CE PP ynT ybT yrT yhT 102 := ⟨⟨pln_0, Or.inl ⟨rfl, q2813⟩⟩, Nat.le_of_ble_eq_true rfl, npl_0⟩
theorem ce103 : CE PP ynT ybT yrT yhT 103 := ⟨⟨pln_0, Or.inl ⟨rfl, q2817⟩⟩, Nat.le_of_ble_eq_true rfl, npl_0⟩
theorem ce104 : CE PP ynT ybT yrT yhT 104 := ⟨⟨pln_0, Or.inl ⟨rfl, q2824⟩⟩, Nat.le_of_ble_eq_true rfl, npl_0⟩
theorem ce105 : CE PP ynT ybT yrT yhT 105 := ⟨⟨pln_0, Or.inl ⟨rfl, q2831⟩⟩, Nat.le_of_ble_eq_true rfl, npl_0⟩
theorem ce106 : CE PP ynT ybT yrT yhT 106 := ⟨⟨pln_8, Or.inl ⟨rfl, q195⟩⟩, Nat.le_of_ble_eq_true rfl, npl_8⟩
theorem ce107 : CE PP ynT ybT yrT yhT 107 := ⟨⟨pln_8, Or.inl ⟨rfl, q2024⟩⟩, Nat.le_of_ble_eq_true rfl, npl_8⟩
theorem ce108 : CE PP ynT ybT yrT yhT 108 := ⟨⟨pln_6, Or.inl ⟨rfl, q273⟩⟩, Nat.le_of_ble_eq_true rfl, npl_6⟩
theorem ce109 : CE PP ynT ybT yrT yhT 109 := ⟨⟨pln_6, Or.inl ⟨rfl, q379⟩⟩, Nat.le_of_ble_eq_true rfl, npl_6⟩
theorem ce110 : CE PP ynT ybT yrT yhT 110 := ⟨⟨pln_6, Or.inl ⟨rfl, q383⟩⟩, Nat.le_of_ble_eq_true rfl, npl_6⟩
theorem ce111 : CE PP ynT ybT yrT yhT 111 := ⟨⟨pln_6, Or.inl ⟨rfl, q856⟩⟩, Nat.le_of_ble_eq_true rfl, npl_6⟩
theorem ce112 : CE PP ynT ybT yrT yhT 112 := ⟨⟨pln_6, Or.inl ⟨rfl, q860⟩⟩, Nat.le_of_ble_eq_true rfl, npl_6⟩
theorem ce113 : CE PP ynT ybT yrT yhT 113 := ⟨⟨pln_1, Or.inl ⟨rfl, q865⟩⟩, Nat.le_of_ble_eq_true rfl, npl_1⟩
theorem ce114 : CE PP ynT ybT yrT yhT 114 := ⟨⟨pln_1, Or.inl ⟨rfl, q872⟩⟩, Nat.le_of_ble_eq_true rfl, npl_1⟩
theorem ce115 : CE PP ynT ybT yrT yhT 115 := ⟨⟨pln_1, Or.inl ⟨rfl, q874⟩⟩, Nat.le_of_ble_eq_true rfl, npl_1⟩
theorem ce116 : CE PP ynT ybT yrT yhT 116 := ⟨⟨pln_1, Or.inl ⟨rfl, q877⟩⟩, Nat.le_of_ble_eq_true rfl, npl_1⟩
theorem ce117 : CE PP ynT ybT yrT yhT 117 := ⟨⟨pln_1, Or.inl ⟨rfl, q880⟩⟩, Nat.le_of_ble_eq_true rfl, npl_1⟩
theorem ce118 : CE PP ynT ybT yrT yhT 118 := ⟨⟨pln_1, Or.inl ⟨rfl, q1954⟩⟩, Nat.le_of_ble_eq_true rfl, npl_1⟩
theorem ce119 : CE PP ynT ybT yrT yhT 119 := ⟨⟨pln_1, Or.inl ⟨rfl, q1963⟩⟩, Nat.le_of_ble_eq_true rfl, npl_1⟩
theorem ce120 : CE PP ynT ybT yrT yhT 120 := ⟨⟨pln_1, Or.inl ⟨rfl, q1996⟩⟩, Nat.le_of_ble_eq_true rfl, npl_1⟩
theorem ce121 : CE PP ynT ybT yrT yhT 121 := ⟨⟨pln_1, Or.inl ⟨rfl, q2001⟩⟩, Nat.le_of_ble_eq_true rfl, npl_1⟩
theorem ce122 : CE PP ynT ybT yrT yhT 122 := ⟨⟨pln_1, Or.inl ⟨rfl, q2008⟩⟩, Nat.le_of_ble_eq_true rfl, npl_1⟩
theorem ce123 : CE PP ynT ybT yrT yhT 123 := ⟨⟨pln_1, Or.inl ⟨rfl, q2012⟩⟩, Nat.le_of_ble_eq_true rfl, npl_1⟩
theorem ce124 : CE PP ynT ybT yrT yhT 124 := ⟨⟨pln_1, Or.inl ⟨rfl, q2016⟩⟩, Nat.le_of_ble_eq_true rfl, npl_1⟩
theorem ce125 : CE PP ynT ybT yrT yhT 125 := ⟨⟨pln_1, Or.inl ⟨rfl, q2045⟩⟩, Nat.le_of_ble_eq_true rfl, npl_1⟩
theorem ce126 : CE PP ynT ybT yrT yhT 126 := ⟨⟨pln_1, Or.inl ⟨rfl, q2050⟩⟩, Nat.le_of_ble_eq_true rfl, npl_1⟩
theorem ce127 : CE PP ynT ybT yrT yhT 127 := ⟨⟨pln_1, Or.inl ⟨rfl, q2054⟩⟩, Nat.le_of_ble_eq_true rfl, npl_1⟩
theorem ce128 : CE PP ynT ybT yrT yhT 128 := ⟨⟨pln_1, Or.inl ⟨rfl, q2058⟩⟩, Nat.le_of_ble_eq_true rfl, npl_1⟩
theorem ce129 : CE PP ynT ybT yrT yhT 129 := ⟨⟨pln_1, Or.inl ⟨rfl, q2112⟩⟩, Nat.le_of_ble_eq_true rfl, npl_1⟩
theorem ce130 : CE PP ynT ybT yrT yhT 130 := ⟨⟨pln_1, Or.inl ⟨rfl, q2116⟩⟩, Nat.le_of_ble_eq_true rfl, npl_1⟩
theorem ce131 : CE PP ynT ybT yrT yhT 131 := ⟨⟨pln_1, Or.inl ⟨rfl, q2140⟩⟩, Nat.le_of_ble_eq_true rfl, npl_1⟩
theorem ce132 : CE PP ynT ybT yrT yhT 132 := ⟨⟨pln_1, Or.inl ⟨rfl, q2425⟩⟩, Nat.le_of_ble_eq_true rfl, npl_1⟩
theorem ce133 : CE PP ynT ybT yrT yhT 133 := ⟨⟨pln_1, Or.inl ⟨rfl, q2574⟩⟩, Nat.le_of_ble_eq_true rfl, npl_1⟩
theorem ce134 : CE PP ynT ybT yrT yhT 134 := ⟨⟨pln_1, Or.inl ⟨rfl, q2662⟩⟩, Nat.le_of_ble_eq_true rfl, npl_1⟩
theorem ce135 : CE PP ynT ybT yrT yhT 135 := ⟨⟨pln_1, Or.inl ⟨rfl, q2710⟩⟩, Nat.le_of_ble_eq_true rfl, npl_1⟩
theorem ce136 : CE PP ynT ybT yrT yhT 136 := ⟨⟨pln_1, Or.inl ⟨rfl, q2722⟩⟩, Nat.le_of_ble_eq_true rfl, npl_1⟩
theorem ce137 : CE PP ynT ybT yrT yhT 137 := ⟨⟨pln_1, Or.inl ⟨rfl, q2727⟩⟩, Nat.le_of_ble_eq_true rfl, npl_1⟩
theorem ce138 : CE PP ynT ybT yrT yhT 138 := ⟨⟨pln_7, Or.inl ⟨rfl, q886⟩⟩, Nat.le_of_ble_eq_true rfl, npl_7⟩
theorem ce139 : CE PP ynT ybT yrT yhT 139 := ⟨⟨pln_7, Or.inl ⟨rfl, q1958⟩⟩, Nat.le_of_ble_eq_true rfl, npl_7⟩
theorem ce140 : CE PP ynT ybT yrT yhT 140 := ⟨⟨pln_7, Or.inl ⟨rfl, q1967⟩⟩, Nat.le_of_ble_eq_true rfl, npl_7⟩
theorem ce141 : CE PP ynT ybT yrT yhT 141 := ⟨⟨pln_7, Or.inl ⟨rfl, q1971⟩⟩, Nat.le_of_ble_eq_true rfl, npl_7⟩
theorem ce142 : CE PP ynT ybT yrT yhT 142 := ⟨⟨pln_7, Or.inl ⟨rfl, q1975⟩⟩, Nat.le_of_ble_eq_true rfl, npl_7⟩
theorem ce143 : CE PP ynT ybT yrT yhT 143 := ⟨⟨pln_13, Or.inl ⟨rfl, q2836⟩⟩, Nat.le_of_ble_eq_true rfl, npl_13⟩
theorem ce144 : CE PP ynT ybT yrT yhT 144 := ⟨⟨pln_13, Or.inl ⟨rfl, q2841⟩⟩, Nat.le_of_ble_eq_true rfl, npl_13⟩
theorem ce145 : CE PP ynT ybT yrT yhT 145 := ⟨⟨pln_13, Or.inl ⟨rfl, q2845⟩⟩, Nat.le_of_ble_eq_true rfl, npl_13⟩
theorem ce146 : CE PP ynT ybT yrT yhT 146 := ⟨⟨pln_13, Or.inl ⟨rfl, q2848⟩⟩, Nat.le_of_ble_eq_true rfl, npl_13⟩
theorem ce147 : CE PP ynT ybT yrT yhT 147 := ⟨⟨pln_13, Or.inl ⟨rfl, q2979⟩⟩, Nat.le_of_ble_eq_true rfl, npl_13⟩
theorem ce148 : CE PP ynT ybT yrT yhT 148 := ⟨⟨pln_13, Or.inl ⟨rfl, q2983⟩⟩, Nat.le_of_ble_eq_true rfl, npl_13⟩
theorem ce149 : CE PP ynT ybT yrT yhT 149 := ⟨⟨pln_13, Or.inl ⟨rfl, q2987⟩⟩, Nat.le_of_ble_eq_true rfl, npl_13⟩
theorem ce150 : CE PP ynT ybT yrT yhT 150 := ⟨⟨pln_13, Or.inl ⟨rfl, q2991⟩⟩, Nat.le_of_ble_eq_true rfl, npl_13⟩
theorem ce151 : CE PP ynT ybT yrT yhT 151 := ⟨⟨pln_13, Or.inl ⟨rfl, q2995⟩⟩, Nat.le_of_ble_eq_true rfl, npl_13⟩
theorem ce152 : CE PP ynT ybT yrT yhT 152 := ⟨⟨pln_13, Or.inl ⟨rfl, q2999⟩⟩, Nat.le_of_ble_eq_true rfl, npl_13⟩
theorem ce153 : CE PP ynT ybT yrT yhT 153 := ⟨⟨pln_13, Or.inl ⟨rfl, q3002⟩⟩, Nat.le_of_ble_eq_true rfl, npl_13⟩
theorem ce154 : CE PP ynT ybT yrT yhT 154 := ⟨⟨pln_13, Or.inl ⟨rfl, q3006⟩⟩, Nat.le_of_ble_eq_true rfl, npl_13⟩
theorem ce155 : CE PP ynT ybT yrT yhT 155 := ⟨⟨pln_13, Or.inl ⟨rfl, q3010⟩⟩, Nat.le_of_ble_eq_true rfl, npl_13⟩
theorem ce156 : CE PP ynT ybT yrT yhT 156 := ⟨⟨pln_13, Or.inl ⟨rfl, q3014⟩⟩, Nat.le_of_ble_eq_true rfl, npl_13⟩
theorem ce157 : CE PP ynT ybT yrT yhT 157 := ⟨⟨pln_13, Or.inl ⟨rfl, q3018⟩⟩, Nat.le_of_ble_eq_true rfl, npl_13⟩
theorem ce158 : CE PP ynT ybT yrT yhT 158 := ⟨⟨pln_13, Or.inl ⟨rfl, q3022⟩⟩, Nat.le_of_ble_eq_true rfl, npl_13⟩
theorem ce159 : CE PP ynT ybT yrT yhT 159 := ⟨⟨pln_13, Or.inl ⟨rfl, q3026⟩⟩, Nat.le_of_ble_eq_true rfl, npl_13⟩
theorem ce160 : CE PP ynT ybT yrT yhT 160 := ⟨⟨pln_13, Or.inl ⟨rfl, q3030⟩⟩, Nat.le_of_ble_eq_true rfl, npl_13⟩
theorem ce161 : CE PP ynT ybT yrT yhT 161 := ⟨⟨pln_13, Or.inl ⟨rfl, q3034⟩⟩, Nat.le_of_ble_eq_true rfl, npl_13⟩
theorem ce162 : CE PP ynT ybT yrT yhT 162 := ⟨⟨pln_13, Or.inl ⟨rfl, q3038⟩⟩, Nat.le_of_ble_eq_true rfl, npl_13⟩
theorem ce163 : CE PP ynT ybT yrT yhT 163 := ⟨⟨pln_13, Or.inl ⟨rfl, q3042⟩⟩, Nat.le_of_ble_eq_true rfl, npl_13⟩
theorem ce164 : CE PP ynT ybT yrT yhT 164 := ⟨⟨pln_13, Or.inl ⟨rfl, q3046⟩⟩, Nat.le_of_ble_eq_true rfl, npl_13⟩
theorem ce165 : CE PP ynT ybT yrT yhT 165 := ⟨⟨pln_13, Or.inl ⟨rfl, q3050⟩⟩, Nat.le_of_ble_eq_true rfl, npl_13⟩
theorem ce166 : CE PP ynT ybT yrT yhT 166 := ⟨⟨pln_13, Or.inl ⟨rfl, q3054⟩⟩, Nat.le_of_ble_eq_true rfl, npl_13⟩
theorem ce167 : CE PP ynT ybT yrT yhT 167 := ⟨⟨pln_13, Or.inl ⟨rfl, q3058⟩⟩, Nat.le_of_ble_eq_true rfl, npl_13⟩
theorem ce168 : CE PP ynT ybT yrT yhT 168 := ⟨⟨pln_13, Or.inl ⟨rfl, q3062⟩⟩, Nat.le_of_ble_eq_true rfl, npl_13⟩
theorem ce169 : CE PP ynT ybT yrT yhT 169 := ⟨⟨pln_13, Or.inl ⟨rfl, q3066⟩⟩, Nat.le_of_ble_eq_true rfl, npl_13⟩
theorem ce170 : CE PP ynT ybT yrT yhT 170 := ⟨⟨pln_13, Or.inl ⟨rfl, q3070⟩⟩, Nat.le_of_ble_eq_true rfl, npl_13⟩
theorem ce171 : CE PP ynT ybT yrT yhT 171 := ⟨⟨pln_13, Or.inl ⟨rfl, q3074⟩⟩, Nat.le_of_ble_eq_true rfl, npl_13⟩
theorem ce172 : CE PP ynT ybT yrT yhT 172 := ⟨⟨pln_13, Or.inl ⟨rfl, q3077⟩⟩, Nat.le_of_ble_eq_true rfl, npl_13⟩
theorem ce173 : CE PP ynT ybT yrT yhT 173 := ⟨⟨pln_13, Or.inl ⟨rfl, q3081⟩⟩, Nat.le_of_ble_eq_true rfl, npl_13⟩
theorem ce174 : CE PP ynT ybT yrT yhT 174 := ⟨⟨pln_13, Or.inl ⟨rfl, q3084⟩⟩, Nat.le_of_ble_eq_true rfl, npl_13⟩
theorem ce175 : CE PP ynT ybT yrT yhT 175 := ⟨⟨pln_13, Or.inl ⟨rfl, q3088⟩⟩, Nat.le_of_ble_eq_true rfl, npl_13⟩
theorem ce176 : CE PP ynT ybT yrT yhT 176 := ⟨⟨pln_13, Or.inl ⟨rfl, q3092⟩⟩, Nat.le_of_ble_eq_true rfl, npl_13⟩
theorem ce177 : CE PP ynT ybT yrT yhT 177 := ⟨⟨pln_13, Or.inl ⟨rfl, q3096⟩⟩, Nat.le_of_ble_eq_true rfl, npl_13⟩
theorem ce178 : CE PP ynT ybT yrT yhT 178 := ⟨⟨pln_13, Or.inl ⟨rfl, q3100⟩⟩, Nat.le_of_ble_eq_true rfl, npl_13⟩
theorem ce179 : CE PP ynT ybT yrT yhT 179 := ⟨⟨pln_13, Or.inl ⟨rfl, q3104⟩⟩, Nat.le_of_ble_eq_true rfl, npl_13⟩
theorem ce180 : CE PP ynT ybT yrT yhT 180 := ⟨⟨pln_13, Or.inl ⟨rfl, q3108⟩⟩, Nat.le_of_ble_eq_true rfl, npl_13⟩
theorem ce181 : CE PP ynT ybT yrT yhT 181 := ⟨⟨pln_13, Or.inl ⟨rfl, q3112⟩⟩, Nat.le_of_ble_eq_true rfl, npl_13⟩
theorem ce182 : CE PP ynT ybT yrT yhT 182 := ⟨⟨pln_13, Or.inl ⟨rfl, q3116⟩⟩, Nat.le_of_ble_eq_true rfl, npl_13⟩
theorem ce183 : CE PP ynT ybT yrT yhT 183 := ⟨⟨pln_13, Or.inl ⟨rfl, q3120⟩⟩, Nat.le_of_ble_eq_true rfl, npl_13⟩
theorem ce184 : CE PP ynT ybT yrT yhT 184 := ⟨⟨pln_13, Or.inl ⟨rfl, q3124⟩⟩, Nat.le_of_ble_eq_true rfl, npl_13⟩
theorem ce185 : CE PP ynT ybT yrT yhT 185 := ⟨⟨pln_13, Or.inl ⟨rfl, q3128⟩⟩, Nat.le_of_ble_eq_true rfl, npl_13⟩
theorem ce186 : CE PP ynT ybT yrT yhT 186 := ⟨⟨pln_13, Or.inl ⟨rfl, q3132⟩⟩, Nat.le_of_ble_eq_true rfl, npl_13⟩
theorem ce187 : CE PP ynT ybT yrT yhT 187 := ⟨⟨pln_13, Or.inl ⟨rfl, q3136⟩⟩, Nat.le_of_ble_eq_true rfl, npl_13⟩
theorem ce188 : CE PP ynT ybT yrT yhT 188 := ⟨⟨pln_13, Or.inl ⟨rfl, q3140⟩⟩, Nat.le_of_ble_eq_true rfl, npl_13⟩
theorem ce189 : CE PP ynT ybT yrT yhT 189 := ⟨⟨pln_13, Or.inl ⟨rfl, q3144⟩⟩, Nat.le_of_ble_eq_true rfl, npl_13⟩
theorem ce190 : CE PP ynT ybT yrT yhT 190 := ⟨⟨pln_13, Or.inl ⟨rfl, q3149⟩⟩, Nat.le_of_ble_eq_true rfl, npl_13⟩
theorem ce191 : CE PP ynT ybT yrT yhT 191 := ⟨⟨pln_13, Or.inl ⟨rfl, q3153⟩⟩, Nat.le_of_ble_eq_true rfl, npl_13⟩
theorem ce192 : CE PP ynT ybT yrT yhT 192 := ⟨⟨pln_13, Or.inl ⟨rfl, q3157⟩⟩, Nat.le_of_ble_eq_true rfl, npl_13⟩
theorem ce193 : CE PP ynT ybT yrT yhT 193 := ⟨⟨pln_13, Or.inl ⟨rfl, q3161⟩⟩, Nat.le_of_ble_eq_true rfl, npl_13⟩
theorem ce194 : CE PP ynT ybT yrT yhT 194 := ⟨⟨pln_13, Or.inl ⟨rfl, q3165⟩⟩, Nat.le_of_ble_eq_true rfl, npl_13⟩
theorem ce195 : CE PP ynT ybT yrT yhT 195 := ⟨⟨pln_13, Or.inl ⟨rfl, q3169⟩⟩, Nat.le_of_ble_eq_true rfl, npl_13⟩
theorem ce196 : CE PP ynT ybT yrT yhT 196 := ⟨⟨pln_13, Or.inl ⟨rfl, q3173⟩⟩, Nat.le_of_ble_eq_true rfl, npl_13⟩
theorem ce197 : CE PP ynT ybT yrT yhT 197 := ⟨⟨pln_13, Or.inl ⟨rfl, q3177⟩⟩, Nat.le_of_ble_eq_true rfl, npl_13⟩
theorem ce198 : CE PP ynT ybT yrT yhT 198 := ⟨⟨pln_13, Or.inl ⟨rfl, q3181⟩⟩, Nat.le_of_ble_eq_true rfl, npl_13⟩
theorem ce199 : CE PP ynT ybT yrT yhT 199 := ⟨⟨pln_13, Or.inl ⟨rfl, q3184⟩⟩, Nat.le_of_ble_eq_true rfl, npl_13⟩
theorem ce200 : CE PP ynT ybT yrT yhT 200 := ⟨⟨pln_13, Or.inl ⟨rfl, q3188⟩⟩, Nat.le_of_ble_eq_true rfl, npl_13⟩
theorem ce201 : CE PP ynT ybT yrT yhT 201 := ⟨⟨pln_13, Or.inl ⟨rfl, q3192⟩⟩, Nat.le_of_ble_eq_true rfl, npl_13⟩
theorem ce202 : CE PP ynT ybT yrT yhT 202 := ⟨⟨pln_13, Or.inl ⟨rfl, q3196⟩⟩, Nat.le_of_ble_eq_true rfl, npl_13⟩
theorem ce203 : CE PP ynT ybT yrT yhT 203 := ⟨⟨pln_13, Or.inl ⟨rfl, q3199⟩⟩, Nat.le_of_ble_eq_true rfl, npl_13⟩
theorem ce204 : CE PP ynT ybT yrT yhT 204 := ⟨⟨pln_13, Or.inl ⟨rfl, q3204⟩⟩, Nat.le_of_ble_eq_true rfl, npl_13⟩
theorem ce205 : CE PP ynT ybT yrT yhT 205 := ⟨⟨pln_13, Or.inl ⟨rfl, q3208⟩⟩, Nat.le_of_ble_eq_true rfl, npl_13⟩
theorem ce206 : CE PP ynT ybT yrT yhT 206 := ⟨⟨pln_13, Or.inl ⟨rfl, q3213⟩⟩, Nat.le_of_ble_eq_true rfl, npl_13⟩
theorem ce207 : CE PP ynT ybT yrT yhT 207 := ⟨⟨pln_13, Or.inl ⟨rfl, q3217⟩⟩, Nat.le_of_ble_eq_true rfl, npl_13⟩
theorem ce208 : CE PP ynT ybT yrT yhT 208 := ⟨⟨pln_13, Or.inl ⟨rfl, q3221⟩⟩, Nat.le_of_ble_eq_true rfl, npl_13⟩
theorem ce209 : CE PP ynT ybT yrT yhT 209 := ⟨⟨pln_13, Or.inl ⟨rfl, q3226⟩⟩, Nat.le_of_ble_eq_true rfl, npl_13⟩
theorem ce210 : CE PP ynT ybT yrT yhT 210 := ⟨⟨pln_13, Or.inl ⟨rfl, q3230⟩⟩, Nat.le_of_ble_eq_true rfl, npl_13⟩
theorem ce211 : CE PP ynT ybT yrT yhT 211 := ⟨⟨pln_13, Or.inl ⟨rfl, q3235⟩⟩, Nat.le_of_ble_eq_true rfl, npl_13⟩
theorem ce212 : CE PP ynT ybT yrT yhT 212 := ⟨⟨pln_13, Or.inl ⟨rfl, q3239⟩⟩, Nat.le_of_ble_eq_true rfl, npl_13⟩
theorem ce213 : CE PP ynT ybT yrT yhT 213 := ⟨⟨pln_13, Or.inl ⟨rfl, q3243⟩⟩, Nat.le_of_ble_eq_true rfl, npl_13⟩
theorem ce214 : CE PP ynT ybT yrT yhT 214 := ⟨⟨pln_13, Or.inl ⟨rfl, q3247⟩⟩, Nat.le_of_ble_eq_true rfl, npl_13⟩
theorem ce215 : CE PP ynT ybT yrT yhT 215 := ⟨⟨pln_13, Or.inl ⟨rfl, q3251⟩⟩, Nat.le_of_ble_eq_true rfl, npl_13⟩
theorem ce216 : CE PP ynT ybT yrT yhT 216 := ⟨⟨pln_13, Or.inl ⟨rfl, q3255⟩⟩, Nat.le_of_ble_eq_true rfl, npl_13⟩
theorem ce217 : CE PP ynT ybT yrT yhT 217 := ⟨⟨pln_13, Or.inl ⟨rfl, q3260⟩⟩, Nat.le_of_ble_eq_true rfl, npl_13⟩
theorem ce218 : CE PP ynT ybT yrT yhT 218 := ⟨⟨pln_13, Or.inl ⟨rfl, q3264⟩⟩, Nat.le_of_ble_eq_true rfl, npl_13⟩
theorem ce219 : CE PP ynT ybT yrT yhT 219 := ⟨⟨pln_13, Or.inl ⟨rfl, q3268⟩⟩, Nat.le_of_ble_eq_true rfl, npl_13⟩
theorem ce220 : CE PP ynT ybT yrT yhT 220 := ⟨⟨pln_13, Or.inl ⟨rfl, q3273⟩⟩, Nat.le_of_ble_eq_true rfl, npl_13⟩
theorem ce221 : CE PP ynT ybT yrT yhT 221 := ⟨⟨pln_13, Or.inl ⟨rfl, q3277⟩⟩, Nat.le_of_ble_eq_true rfl, npl_13⟩
theorem ce222 : CE PP ynT ybT yrT yhT 222 := ⟨⟨pln_13, Or.inl ⟨rfl, q3281⟩⟩, Nat.le_of_ble_eq_true rfl, npl_13⟩
theorem ce223 : CE PP ynT ybT yrT yhT 223 := ⟨⟨pln_13, Or.inl ⟨rfl, q3285⟩⟩, Nat.le_of_ble_eq_true rfl, npl_13⟩
theorem ce224 : CE PP ynT ybT yrT yhT 224 := ⟨⟨pln_13, Or.inl ⟨rfl, q3289⟩⟩, Nat.le_of_ble_eq_true rfl, npl_13⟩
theorem ce225 : CE PP ynT ybT yrT yhT 225 := ⟨⟨pln_13, Or.inl ⟨rfl, q3293⟩⟩, Nat.le_of_ble_eq_true rfl, npl_13⟩
theorem ce226 : CE PP ynT ybT yrT yhT 226 := ⟨⟨pln_13, Or.inl ⟨rfl, q3297⟩⟩, Nat.le_of_ble_eq_true rfl, npl_13⟩
theorem ce227 : CE PP ynT ybT yrT yhT 227 := ⟨⟨pln_13, Or.inl ⟨rfl, q3301⟩⟩, Nat.le_of_ble_eq_true rfl, npl_13⟩
theorem ce228 : CE PP ynT ybT yrT yhT 228 := ⟨⟨pln_13, Or.inl ⟨rfl, q3305⟩⟩, Nat.le_of_ble_eq_true rfl, npl_13⟩
theorem ce229 : CE PP ynT ybT yrT yhT 229 := ⟨⟨pln_13, Or.inl ⟨rfl, q3309⟩⟩, Nat.le_of_ble_eq_true rfl, npl_13⟩
theorem ce230 : CE PP ynT ybT yrT yhT 230 := ⟨⟨pln_13, Or.inl ⟨rfl, q3313⟩⟩, Nat.le_of_ble_eq_true rfl, npl_13⟩
theorem ce231 : CE PP ynT ybT yrT yhT 231 := ⟨⟨pln_13, Or.inl ⟨rfl, q3317⟩⟩, Nat.le_of_ble_eq_true rfl, npl_13⟩
theorem ce232 : CE PP ynT ybT yrT yhT 232 := ⟨⟨pln_13, Or.inl ⟨rfl, q3321⟩⟩, Nat.le_of_ble_eq_true rfl, npl_13⟩
theorem ce233 : CE PP ynT ybT yrT yhT 233 := ⟨⟨pln_13, Or.inl ⟨rfl, q3325⟩⟩, Nat.le_of_ble_eq_true rfl, npl_13⟩
theorem ce234 : CE PP ynT ybT yrT yhT 234 := ⟨⟨pln_13, Or.inl ⟨rfl, q3329⟩⟩, Nat.le_of_ble_eq_true rfl, npl_13⟩
theorem ce235 : CE PP ynT ybT yrT yhT 235 := ⟨⟨pln_13, Or.inl ⟨rfl, q3333⟩⟩, Nat.le_of_ble_eq_true rfl, npl_13⟩
theorem ce236 : CE PP ynT ybT yrT yhT 236 := ⟨⟨pln_13, Or.inl ⟨rfl, q3337⟩⟩, Nat.le_of_ble_eq_true rfl, npl_13⟩
theorem ce237 : CE PP ynT ybT yrT yhT 237 := ⟨⟨pln_13, Or.inl ⟨rfl, q3341⟩⟩, Nat.le_of_ble_eq_true rfl, npl_13⟩
theorem ce238 : CE PP ynT ybT yrT yhT 238 := ⟨⟨pln_13, Or.inl ⟨rfl, q3345⟩⟩, Nat.le_of_ble_eq_true rfl, npl_13⟩
theorem ce239 : CE PP ynT ybT yrT yhT 239 := ⟨⟨pln_13, Or.inl ⟨rfl, q3349⟩⟩, Nat.le_of_ble_eq_true rfl, npl_13⟩
theorem ce240 : CE PP ynT ybT yrT yhT 240 := ⟨⟨pln_13, Or.inl ⟨rfl, q3353⟩⟩, Nat.le_of_ble_eq_true rfl, npl_13⟩
theorem ce241 : CE PP ynT ybT yrT yhT 241 := ⟨⟨pln_13, Or.inl ⟨rfl, q3357⟩⟩, Nat.le_of_ble_eq_true rfl, npl_13⟩
theorem ce242 : CE PP ynT ybT yrT yhT 242 := ⟨⟨pln_13, Or.inl ⟨rfl, q3361⟩⟩, Nat.le_of_ble_eq_true rfl, npl_13⟩
theorem ce243 : CE PP ynT ybT yrT yhT 243 := ⟨⟨pln_13, Or.inl ⟨rfl, q3365⟩⟩, Nat.le_of_ble_eq_true rfl, npl_13⟩
theorem ce244 : CE PP ynT ybT yrT yhT 244 := ⟨⟨pln_13, Or.inl ⟨rfl, q3369⟩⟩, Nat.le_of_ble_eq_true rfl, npl_13⟩
theorem ce245 : CE PP ynT ybT yrT yhT 245 := ⟨⟨pln_13, Or.inl ⟨rfl, q3373⟩⟩, Nat.le_of_ble_eq_true rfl, npl_13⟩
theorem ce246 : CE PP ynT ybT yrT yhT 246 := ⟨⟨pln_13, Or.inl ⟨rfl, q3377⟩⟩, Nat.le_of_ble_eq_true rfl, npl_13⟩
theorem ce247 : CE PP ynT ybT yrT yhT 247 := ⟨⟨pln_13, Or.inl ⟨rfl, q3381⟩⟩, Nat.le_of_ble_eq_true rfl, npl_13⟩
theorem ce248 : CE PP ynT ybT yrT yhT 248 := ⟨⟨pln_13, Or.inl ⟨rfl, q3385⟩⟩, Nat.le_of_ble_eq_true rfl, npl_13⟩
theorem ce249 : CE PP ynT ybT yrT yhT 249 := ⟨⟨pln_13, Or.inl ⟨rfl, q3390⟩⟩, Nat.le_of_ble_eq_true rfl, npl_13⟩
theorem ce250 : CE PP ynT ybT yrT yhT 250 := ⟨⟨pln_13, Or.inl ⟨rfl, q3394⟩⟩, Nat.le_of_ble_eq_true rfl, npl_13⟩
theorem ce251 : CE PP ynT ybT yrT yhT 251 := ⟨⟨pln_13, Or.inl ⟨rfl, q3398⟩⟩, Nat.le_of_ble_eq_true rfl, npl_13⟩
theorem ce252 : CE PP ynT ybT yrT yhT 252 := ⟨⟨pln_13, Or.inl ⟨rfl, q3402⟩⟩, Nat.le_of_ble_eq_true rfl, npl_13⟩
theorem ce253 : CE PP ynT ybT yrT yhT 253 := ⟨⟨pln_13, Or.inl ⟨rfl, q3406⟩⟩, Nat.le_of_ble_eq_true rfl, npl_13⟩
theorem ce254 : CE PP ynT ybT yrT yhT 254 := ⟨⟨pln_13, Or.inl ⟨rfl, q3410⟩⟩, Nat.le_of_ble_eq_true rfl, npl_13⟩
theorem ce255 : CE PP ynT ybT yrT yhT 255 := ⟨⟨pln_13, Or.inl ⟨rfl, q3414⟩⟩, Nat.le_of_ble_eq_true rfl, npl_13⟩
theorem ce256 : CE PP ynT ybT yrT yhT 256 := ⟨⟨pln_13, Or.inl ⟨rfl, q3418⟩⟩, Nat.le_of_ble_eq_true rfl, npl_13⟩
theorem ce257 : CE PP ynT ybT yrT yhT 257 := ⟨⟨pln_13, Or.inl ⟨rfl, q3426⟩⟩, Nat.le_of_ble_eq_true rfl, npl_13⟩
theorem ce258 : CE PP ynT ybT yrT yhT 258 := ⟨⟨pln_13, Or.inl ⟨rfl, q3445⟩⟩, Nat.le_of_ble_eq_true rfl, npl_13⟩
theorem ce259 : CE PP ynT ybT yrT yhT 259 := ⟨⟨pln_13, Or.inl ⟨rfl, q3449⟩⟩, Nat.le_of_ble_eq_true rfl, npl_13⟩
theorem ce260 : CE PP ynT ybT yrT yhT 260 := ⟨⟨pln_13, Or.inl ⟨rfl, q3453⟩⟩, Nat.le_of_ble_eq_true rfl, npl_13⟩
theorem ce261 : CE PP ynT ybT yrT yhT 261 := ⟨⟨pln_13, Or.inl ⟨rfl, q3457⟩⟩, Nat.le_of_ble_eq_true rfl, npl_13⟩
theorem ce262 : CE PP ynT ybT yrT yhT 262 := ⟨⟨pln_13, Or.inl ⟨rfl, q3461⟩⟩, Nat.le_of_ble_eq_true rfl, npl_13⟩
theorem ce263 : CE PP ynT ybT yrT yhT 263 := ⟨⟨pln_13, Or.inl ⟨rfl, q3465⟩⟩, Nat.le_of_ble_eq_true rfl, npl_13⟩
theorem ce264 : CE PP ynT ybT yrT yhT 264 := ⟨⟨pln_13, Or.inl ⟨rfl, q3469⟩⟩, Nat.le_of_ble_eq_true rfl, npl_13⟩
theorem ce265 : CE PP ynT ybT yrT yhT 265 := ⟨⟨pln_13, Or.inl ⟨rfl, q3473⟩⟩, Nat.le_of_ble_eq_true rfl, npl_13⟩
theorem ce266 : CE PP ynT ybT yrT yhT 266 := ⟨⟨pln_13, Or.inl ⟨rfl, q3476⟩⟩, Nat.le_of_ble_eq_true rfl, npl_13⟩
theorem ce267 : CE PP ynT ybT yrT yhT 267 := ⟨⟨pln_13, Or.inl ⟨rfl, q3480⟩⟩, Nat.le_of_ble_eq_true rfl, npl_13⟩
theorem ce268 : CE PP ynT ybT yrT yhT 268 := ⟨⟨pln_13, Or.inl ⟨rfl, q3484⟩⟩, Nat.le_of_ble_eq_true rfl, npl_13⟩
theorem ce269 : CE PP ynT ybT yrT yhT 269 := ⟨⟨pln_13, Or.inl ⟨rfl, q3488⟩⟩, Nat.le_of_ble_eq_true rfl, npl_13⟩
theorem ce270 : CE PP ynT ybT yrT yhT 270 := ⟨⟨pln_13, Or.inl ⟨rfl, q3492⟩⟩, Nat.le_of_ble_eq_true rfl, npl_13⟩
theorem ce271 : CE PP ynT ybT yrT yhT 271 := ⟨⟨pln_13, Or.inl ⟨rfl, q3496⟩⟩, Nat.le_of_ble_eq_true rfl, npl_13⟩
theorem ce272 : CE PP ynT ybT yrT yhT 272 := ⟨⟨pln_13, Or.inl ⟨rfl, q3500⟩⟩, Nat.le_of_ble_eq_true rfl, npl_13⟩
theorem ce273 : CE PP ynT ybT yrT yhT 273 := ⟨⟨pln_13, Or.inl ⟨rfl, q3506⟩⟩, Nat.le_of_ble_eq_true rfl, npl_13⟩
theorem ce274 : CE PP ynT ybT yrT yhT 274 := ⟨⟨pln_13, Or.inl ⟨rfl, q3512⟩⟩, Nat.le_of_ble_eq_true rfl, npl_13⟩
theorem ce275 : CE PP ynT ybT yrT yhT 275 := ⟨⟨pln_13, Or.inl ⟨rfl, q3516⟩⟩, Nat.le_of_ble_eq_true rfl, npl_13⟩
theorem ce276 : CE PP ynT ybT yrT yhT 276 := ⟨⟨pln_13, Or.inl ⟨rfl, q3520⟩⟩, Nat.le_of_ble_eq_true rfl, npl_13⟩
theorem ce277 : CE PP ynT ybT yrT yhT 277 := ⟨⟨pln_13, Or.inl ⟨rfl, q3525⟩⟩, Nat.le_of_ble_eq_true rfl, npl_13⟩
theorem ce278 : CE PP ynT ybT yrT yhT 278 := ⟨⟨pln_13, Or.inl ⟨rfl, q3529⟩⟩, Nat.le_of_ble_eq_true rfl, npl_13⟩
theorem ce279 : CE PP ynT ybT yrT yhT 279 := ⟨⟨pln_13, Or.inl ⟨rfl, q3533⟩⟩, Nat.le_of_ble_eq_true rfl, npl_13⟩
theorem ce280 : CE PP ynT ybT yrT yhT 280 := ⟨⟨pln_13, Or.inl ⟨rfl, q3538⟩⟩, Nat.le_of_ble_eq_true rfl, npl_13⟩
theorem ce281 : CE PP ynT ybT yrT yhT 281 := ⟨⟨pln_4, Or.inl ⟨rfl, q1152⟩⟩, Nat.le_of_ble_eq_true rfl, npl_4⟩
theorem ce282 : CE PP ynT ybT yrT yhT 282 := ⟨⟨pln_4, Or.inl ⟨rfl, q1249⟩⟩, Nat.le_of_ble_eq_true rfl, npl_4⟩
theorem ce283 : CE PP ynT ybT yrT yhT 283 := ⟨⟨pln_4, Or.inl ⟨rfl, q1253⟩⟩, Nat.le_of_ble_eq_true rfl, npl_4⟩
theorem ce284 : CE PP ynT ybT yrT yhT 284 := ⟨⟨pln_4, Or.inl ⟨rfl, q1547⟩⟩, Nat.le_of_ble_eq_true rfl, npl_4⟩
theorem ce285 : CE PP ynT ybT yrT yhT 285 := ⟨⟨pln_4, Or.inl ⟨rfl, q1551⟩⟩, Nat.le_of_ble_eq_true rfl, npl_4⟩
theorem ce286 : CE PP ynT ybT yrT yhT 286 := ⟨⟨pln_4, Or.inl ⟨rfl, q1623⟩⟩, Nat.le_of_ble_eq_true rfl, npl_4⟩
theorem ce287 : CE PP ynT ybT yrT yhT 287 := ⟨⟨pln_4, Or.inl ⟨rfl, q1628⟩⟩, Nat.le_of_ble_eq_true rfl, npl_4⟩
theorem ce288 : CE PP ynT ybT yrT yhT 288 := ⟨⟨pln_4, Or.inl ⟨rfl, q1660⟩⟩, Nat.le_of_ble_eq_true rfl, npl_4⟩
theorem ce289 : CE PP ynT ybT yrT yhT 289 := ⟨⟨pln_4, Or.inl ⟨rfl, q1664⟩⟩, Nat.le_of_ble_eq_true rfl, npl_4⟩
theorem ce290 : CE PP ynT ybT yrT yhT 290 := ⟨⟨pln_4, Or.inl ⟨rfl, q1753⟩⟩, Nat.le_of_ble_eq_true rfl, npl_4⟩
theorem ce291 : CE PP ynT ybT yrT yhT 291 := ⟨⟨pln_4, Or.inl ⟨rfl, q1758⟩⟩, Nat.le_of_ble_eq_true rfl, npl_4⟩
theorem ce292 : CE PP ynT ybT yrT yhT 292 := ⟨⟨pln_4, Or.inl ⟨rfl, q1763⟩⟩, Nat.le_of_ble_eq_true rfl, npl_4⟩
theorem ce293 : CE PP ynT ybT yrT yhT 293 := ⟨⟨pln_4, Or.inl ⟨rfl, q1768⟩⟩, Nat.le_of_ble_eq_true rfl, npl_4⟩
theorem ce294 : CE PP ynT ybT yrT yhT 294 := ⟨⟨pln_4, Or.inl ⟨rfl, q1774⟩⟩, Nat.le_of_ble_eq_true rfl, npl_4⟩
theorem ce295 : CE PP ynT ybT yrT yhT 295 := ⟨⟨pln_4, Or.inl ⟨rfl, q1819⟩⟩, Nat.le_of_ble_eq_true rfl, npl_4⟩
theorem ce296 : CE PP ynT ybT yrT yhT 296 := ⟨⟨pln_4, Or.inl ⟨rfl, q1823⟩⟩, Nat.le_of_ble_eq_true rfl, npl_4⟩
theorem ce297 : CE PP ynT ybT yrT yhT 297 := ⟨⟨pln_4, Or.inl ⟨rfl, q1889⟩⟩, Nat.le_of_ble_eq_true rfl, npl_4⟩
theorem ce298 : CE PP ynT ybT yrT yhT 298 := ⟨⟨pln_3, Or.inl ⟨rfl, q1640⟩⟩, Nat.le_of_ble_eq_true rfl, npl_3⟩
theorem ce299 : CE PP ynT ybT yrT yhT 299 := ⟨⟨pln_5, Or.inl ⟨rfl, q1785⟩⟩, Nat.le_of_ble_eq_true rfl, npl_5⟩
theorem ce300 : CE PP ynT ybT yrT yhT 300 := ⟨⟨pln_2, Or.inl ⟨rfl, q779⟩⟩, Nat.le_of_ble_eq_true rfl, npl_2⟩
theorem ce301 : CE PP ynT ybT yrT yhT 301 := ⟨⟨pln_2, Or.inl ⟨rfl, q784⟩⟩, Nat.le_of_ble_eq_true rfl, npl_2⟩
theorem ce302 : CE PP ynT ybT yrT yhT 302 := ⟨⟨pln_2, Or.inl ⟨rfl, q2444⟩⟩, Nat.le_of_ble_eq_true rfl, npl_2⟩
theorem ce303 : CE PP ynT ybT yrT yhT 303 := ⟨⟨pln_11, Or.inl ⟨rfl, q2036⟩⟩, Nat.le_of_ble_eq_true rfl, npl_11⟩
theorem ce304 : CE PP ynT ybT yrT yhT 304 := ⟨⟨pln_9, Or.inl ⟨rfl, q2030⟩⟩, Nat.le_of_ble_eq_true rfl, npl_9⟩
theorem ce305 : CE PP ynT ybT yrT yhT 305 := ⟨⟨pln_10, Or.inl ⟨rfl, q2033⟩⟩, Nat.le_of_ble_eq_true rfl, npl_10⟩
theorem ce306 : CE PP ynT ybT yrT yhT 306 := ⟨⟨pln_15, Or.inl ⟨rfl, q528⟩⟩, Nat.le_of_ble_eq_true rfl, npl_15⟩
theorem ce307 : CE PP ynT ybT yrT yhT 307 := ⟨⟨pln_15, Or.inl ⟨rfl, q536⟩⟩, Nat.le_of_ble_eq_true rfl, npl_15⟩
theorem ce308 : CE PP ynT ybT yrT yhT 308 := ⟨⟨pln_15, Or.inl ⟨rfl, q544⟩⟩, Nat.le_of_ble_eq_true rfl, npl_15⟩
theorem ce309 : CE PP ynT ybT yrT yhT 309 := ⟨⟨pln_15, Or.inl ⟨rfl, q1697⟩⟩, Nat.le_of_ble_eq_true rfl, npl_15⟩
theorem ce310 : CE PP ynT ybT yrT yhT 310 := ⟨⟨pln_15, Or.inl ⟨rfl, q1931⟩⟩, Nat.le_of_ble_eq_true rfl, npl_15⟩
theorem ce311 : CE PP ynT ybT yrT yhT 311 := ⟨⟨pln_23, Or.inl ⟨rfl, q216⟩⟩, Nat.le_of_ble_eq_true rfl, npl_23⟩
theorem ce312 : CE PP ynT ybT yrT yhT 312 := ⟨⟨pln_24, Or.inl ⟨rfl, q213⟩⟩, Nat.le_of_ble_eq_true rfl, npl_24⟩
theorem ce313 : CE PP ynT ybT yrT yhT 313 := ⟨⟨pln_27, Or.inl ⟨rfl, q210⟩⟩, Nat.le_of_ble_eq_true rfl, npl_27⟩
theorem ce314 : CE PP ynT ybT yrT yhT 314 := ⟨⟨pln_27, Or.inl ⟨rfl, q397⟩⟩, Nat.le_of_ble_eq_true rfl, npl_27⟩
theorem ce315 : CE PP ynT ybT yrT yhT 315 := ⟨⟨pln_27, Or.inl ⟨rfl, q401⟩⟩, Nat.le_of_ble_eq_true rfl, npl_27⟩
theorem ce316 : CE PP ynT ybT yrT yhT 316 := ⟨⟨pln_27, Or.inl ⟨rfl, q405⟩⟩, Nat.le_of_ble_eq_true rfl, npl_27⟩
theorem ce317 : CE PP ynT ybT yrT yhT 317 := ⟨⟨pln_27, Or.inl ⟨rfl, q409⟩⟩, Nat.le_of_ble_eq_true rfl, npl_27⟩
theorem ce318 : CE PP ynT ybT yrT yhT 318 := ⟨⟨pln_27, Or.inl ⟨rfl, q921⟩⟩, Nat.le_of_ble_eq_true rfl, npl_27⟩
theorem ce319 : CE PP ynT ybT yrT yhT 319 := ⟨⟨pln_27, Or.inl ⟨rfl, q931⟩⟩, Nat.le_of_ble_eq_true rfl, npl_27⟩
theorem ce320 : CE PP ynT ybT yrT yhT 320 := ⟨⟨pln_27, Or.inl ⟨rfl, q971⟩⟩, Nat.le_of_ble_eq_true rfl, npl_27⟩
theorem ce321 : CE PP ynT ybT yrT yhT 321 := ⟨⟨pln_27, Or.inl ⟨rfl, q1674⟩⟩, Nat.le_of_ble_eq_true rfl, npl_27⟩
theorem ce322 : CE PP ynT ybT yrT yhT 322 := ⟨⟨pln_27, Or.inl ⟨rfl, q1678⟩⟩, Nat.le_of_ble_eq_true rfl, npl_27⟩
theorem ce323 : CE PP ynT ybT yrT yhT 323 := ⟨⟨pln_27, Or.inl ⟨rfl, q1682⟩⟩, Nat.le_of_ble_eq_true rfl, npl_27⟩
theorem ce324 : CE PP ynT ybT yrT yhT 324 := ⟨⟨pln_27, Or.inl ⟨rfl, q1898⟩⟩, Nat.le_of_ble_eq_true rfl, npl_27⟩
theorem ce325 : CE PP ynT ybT yrT yhT 325 := ⟨⟨pln_27, Or.inl ⟨rfl, q2067⟩⟩, Nat.le_of_ble_eq_true rfl, npl_27⟩
theorem ce326 : CE PP ynT ybT yrT yhT 326 := ⟨⟨pln_27, Or.inl ⟨rfl, q2075⟩⟩, Nat.le_of_ble_eq_true rfl, npl_27⟩
theorem ce327 : CE PP ynT ybT yrT yhT 327 := ⟨⟨pln_27, Or.inl ⟨rfl, q2125⟩⟩, Nat.le_of_ble_eq_true rfl, npl_27⟩
theorem ce328 : CE PP ynT ybT yrT yhT 328 := ⟨⟨pln_27, Or.inl ⟨rfl, q2129⟩⟩, Nat.le_of_ble_eq_true rfl, npl_27⟩
theorem ce329 : CE PP ynT ybT yrT yhT 329 := ⟨⟨pln_27, Or.inl ⟨rfl, q2275⟩⟩, Nat.le_of_ble_eq_true rfl, npl_27⟩
theorem ce330 : CE PP ynT ybT yrT yhT 330 := ⟨⟨pln_27, Or.inl ⟨rfl, q2764⟩⟩, Nat.le_of_ble_eq_true rfl, npl_27⟩
theorem ce331 : CE PP ynT ybT yrT yhT 331 := ⟨⟨pln_14, Or.inl ⟨rfl, q242⟩⟩, Nat.le_of_ble_eq_true rfl, npl_14⟩
theorem ce332 : CE PP ynT ybT yrT yhT 332 := ⟨⟨pln_14, Or.inl ⟨rfl, q741⟩⟩, Nat.le_of_ble_eq_true rfl, npl_14⟩
theorem ce333 : CE PP ynT ybT yrT yhT 333 := ⟨⟨pln_14, Or.inl ⟨rfl, q746⟩⟩, Nat.le_of_ble_eq_true rfl, npl_14⟩
theorem ce334 : CE PP ynT ybT yrT yhT 334 := ⟨⟨pln_14, Or.inl ⟨rfl, q1263⟩⟩, Nat.le_of_ble_eq_true rfl, npl_14⟩
theorem ce335 : CE PP ynT ybT yrT yhT 335 := ⟨⟨pln_14, Or.inl ⟨rfl, q1267⟩⟩, Nat.le_of_ble_eq_true rfl, npl_14⟩
theorem ce336 : CE PP ynT ybT yrT yhT 336 := ⟨⟨pln_14, Or.inl ⟨rfl, q1271⟩⟩, Nat.le_of_ble_eq_true rfl, npl_14⟩
theorem ce337 : CE PP ynT ybT yrT yhT 337 := ⟨⟨pln_14, Or.inl ⟨rfl, q1288⟩⟩, Nat.le_of_ble_eq_true rfl, npl_14⟩
theorem ce338 : CE PP ynT ybT yrT yhT 338 := ⟨⟨pln_14, Or.inl ⟨rfl, q1336⟩⟩, Nat.le_of_ble_eq_true rfl, npl_14⟩
theorem ce339 : CE PP ynT ybT yrT yhT 339 := ⟨⟨pln_14, Or.inl ⟨rfl, q1344⟩⟩, Nat.le_of_ble_eq_true rfl, npl_14⟩
theorem ce340 : CE PP ynT ybT yrT yhT 340 := ⟨⟨pln_14, Or.inl ⟨rfl, q1408⟩⟩, Nat.le_of_ble_eq_true rfl, npl_14⟩
theorem ce341 : CE PP ynT ybT yrT yhT 341 := ⟨⟨pln_14, Or.inl ⟨rfl, q1440⟩⟩, Nat.le_of_ble_eq_true rfl, npl_14⟩
theorem ce342 : CE PP ynT ybT yrT yhT 342 := ⟨⟨pln_14, Or.inl ⟨rfl, q1444⟩⟩, Nat.le_of_ble_eq_true rfl, npl_14⟩
theorem ce343 : CE PP ynT ybT yrT yhT 343 := ⟨⟨pln_14, Or.inl ⟨rfl, q1455⟩⟩, Nat.le_of_ble_eq_true rfl, npl_14⟩
theorem ce344 : CE PP ynT ybT yrT yhT 344 := ⟨⟨pln_14, Or.inl ⟨rfl, q1459⟩⟩, Nat.le_of_ble_eq_true rfl, npl_14⟩
theorem ce345 : CE PP ynT ybT yrT yhT 345 := ⟨⟨pln_14, Or.inl ⟨rfl, q2151⟩⟩, Nat.le_of_ble_eq_true rfl, npl_14⟩
theorem ce346 : CE PP ynT ybT yrT yhT 346 := ⟨⟨pln_14, Or.inl ⟨rfl, q2227⟩⟩, Nat.le_of_ble_eq_true rfl, npl_14⟩
theorem ce347 : CE PP ynT ybT yrT yhT 347 := ⟨⟨pln_20, Or.inl ⟨rfl, q239⟩⟩, Nat.le_of_ble_eq_true rfl, npl_20⟩
theorem ce348 : CE PP ynT ybT yrT yhT 348 := ⟨⟨pln_20, Or.inl ⟨rfl, q733⟩⟩, Nat.le_of_ble_eq_true rfl, npl_20⟩
theorem ce349 : CE PP ynT ybT yrT yhT 349 := ⟨⟨pln_20, Or.inl ⟨rfl, q738⟩⟩, Nat.le_of_ble_eq_true rfl, npl_20⟩
theorem ce350 : CE PP ynT ybT yrT yhT 350 := ⟨⟨pln_20, Or.inl ⟨rfl, q1260⟩⟩, Nat.le_of_ble_eq_true rfl, npl_20⟩
theorem ce351 : CE PP ynT ybT yrT yhT 351 := ⟨⟨pln_20, Or.inl ⟨rfl, q1322⟩⟩, Nat.le_of_ble_eq_true rfl, npl_20⟩
theorem ce352 : CE PP ynT ybT yrT yhT 352 := ⟨⟨pln_20, Or.inl ⟨rfl, q1342⟩⟩, Nat.le_of_ble_eq_true rfl, npl_20⟩
theorem ce353 : CE PP ynT ybT yrT yhT 353 := ⟨⟨pln_20, Or.inl ⟨rfl, q1405⟩⟩, Nat.le_of_ble_eq_true rfl, npl_20⟩
theorem ce354 : CE PP ynT ybT yrT yhT 354 := ⟨⟨pln_20, Or.inl ⟨rfl, q1437⟩⟩, Nat.le_of_ble_eq_true rfl, npl_20⟩
theorem ce355 : CE PP ynT ybT yrT yhT 355 := ⟨⟨pln_20, Or.inl ⟨rfl, q2148⟩⟩, Nat.le_of_ble_eq_true rfl, npl_20⟩
theorem ce356 : CE PP ynT ybT yrT yhT 356 := ⟨⟨pln_20, Or.inl ⟨rfl, q2224⟩⟩, Nat.le_of_ble_eq_true rfl, npl_20⟩
theorem ce357 : CE PP ynT ybT yrT yhT 357 := ⟨⟨pln_19, Or.inl ⟨rfl, q569⟩⟩, Nat.le_of_ble_eq_true rfl, npl_19⟩
theorem ce358 : CE PP ynT ybT yrT yhT 358 := ⟨⟨pln_19, Or.inl ⟨rfl, q574⟩⟩, Nat.le_of_ble_eq_true rfl, npl_19⟩
theorem ce359 : CE PP ynT ybT yrT yhT 359 := ⟨⟨pln_19, Or.inl ⟨rfl, q578⟩⟩, Nat.le_of_ble_eq_true rfl, npl_19⟩
theorem ce360 : CE PP ynT ybT yrT yhT 360 := ⟨⟨pln_19, Or.inl ⟨rfl, q756⟩⟩, Nat.le_of_ble_eq_true rfl, npl_19⟩
theorem ce362 : CE PP ynT ybT yrT yhT 362 := ⟨⟨pln_19, Or.inl ⟨rfl, q1315⟩⟩, Nat.le_of_ble_eq_true rfl, npl_19⟩
theorem ce363 : CE PP ynT ybT yrT yhT 363 := ⟨⟨pln_19, Or.inl ⟨rfl, q1327⟩⟩, Nat.le_of_ble_eq_true rfl, npl_19⟩
theorem ce364 : CE PP ynT ybT yrT yhT 364 := ⟨⟨pln_19, Or.inl ⟨rfl, q1330⟩⟩, Nat.le_of_ble_eq_true rfl, npl_19⟩
theorem ce366 : CE PP ynT ybT yrT yhT 366 := ⟨⟨pln_19, Or.inl ⟨rfl, q1451⟩⟩, Nat.le_of_ble_eq_true rfl, npl_19⟩
theorem ce367 : CE PP ynT ybT yrT yhT 367 := ⟨⟨pln_19, Or.inl ⟨rfl, q1464⟩⟩, Nat.le_of_ble_eq_true rfl, npl_19⟩
theorem ce368 : CE PP ynT ybT yrT yhT 368 := ⟨⟨pln_19, Or.inl ⟨rfl, q1555⟩⟩, Nat.le_of_ble_eq_true rfl, npl_19⟩
theorem ce369 : CE PP ynT ybT yrT yhT 369 := ⟨⟨pln_19, Or.inl ⟨rfl, q1559⟩⟩, Nat.le_of_ble_eq_true rfl, npl_19⟩
theorem ce370 : CE PP ynT ybT yrT yhT 370 := ⟨⟨pln_19, Or.inl ⟨rfl, q1616⟩⟩, Nat.le_of_ble_eq_true rfl, npl_19⟩
theorem ce371 : CE PP ynT ybT yrT yhT 371 := ⟨⟨pln_19, Or.inl ⟨rfl, q3432⟩⟩, Nat.le_of_ble_eq_true rfl, npl_19⟩
theorem ce397 : CE PP ynT ybT yrT yhT 397 := ⟨⟨pln_25, Or.inl ⟨rfl, q282⟩⟩, Nat.le_of_ble_eq_true rfl, npl_25⟩
theorem ce398 : CE PP ynT ybT yrT yhT 398 := ⟨⟨pln_39, Or.inl ⟨rfl, q279⟩⟩, Nat.le_of_ble_eq_true rfl, npl_39⟩
theorem ce399 : CE PP ynT ybT yrT yhT 399 := ⟨⟨pln_39, Or.inl ⟨rfl, q387⟩⟩, Nat.le_of_ble_eq_true rfl, npl_39⟩
theorem ce400 : CE PP ynT ybT yrT yhT 400 := ⟨⟨pln_39, Or.inl ⟨rfl, q505⟩⟩, Nat.le_of_ble_eq_true rfl, npl_39⟩
theorem ce401 : CE PP ynT ybT yrT yhT 401 := ⟨⟨pln_39, Or.inl ⟨rfl, q509⟩⟩, Nat.le_of_ble_eq_true rfl, npl_39⟩
theorem ce402 : CE PP ynT ybT yrT yhT 402 := ⟨⟨pln_39, Or.inl ⟨rfl, q513⟩⟩, Nat.le_of_ble_eq_true rfl, npl_39⟩
theorem ce403 : CE PP ynT ybT yrT yhT 403 := ⟨⟨pln_39, Or.inl ⟨rfl, q517⟩⟩, Nat.le_of_ble_eq_true rfl, npl_39⟩
theorem ce404 : CE PP ynT ybT yrT yhT 404 := ⟨⟨pln_39, Or.inl ⟨rfl, q825⟩⟩, Nat.le_of_ble_eq_true rfl, npl_39⟩
theorem ce405 : CE PP ynT ybT yrT yhT 405 := ⟨⟨pln_39, Or.inl ⟨rfl, q829⟩⟩, Nat.le_of_ble_eq_true rfl, npl_39⟩
theorem ce406 : CE PP ynT ybT yrT yhT 406 := ⟨⟨pln_39, Or.inl ⟨rfl, q832⟩⟩, Nat.le_of_ble_eq_true rfl, npl_39⟩
theorem ce407 : CE PP ynT ybT yrT yhT 407 := ⟨⟨pln_39, Or.inl ⟨rfl, q835⟩⟩, Nat.le_of_ble_eq_true rfl, npl_39⟩
theorem ce408 : CE PP ynT ybT yrT yhT 408 := ⟨⟨pln_39, Or.inl ⟨rfl, q838⟩⟩, Nat.le_of_ble_eq_true rfl, npl_39⟩
theorem ce409 : CE PP ynT ybT yrT yhT 409 := ⟨⟨pln_39, Or.inl ⟨rfl, q841⟩⟩, Nat.le_of_ble_eq_true rfl, npl_39⟩
theorem ce410 : CE PP ynT ybT yrT yhT 410 := ⟨⟨pln_39, Or.inl ⟨rfl, q844⟩⟩, Nat.le_of_ble_eq_true rfl, npl_39⟩
theorem ce411 : CE PP ynT ybT yrT yhT 411 := ⟨⟨pln_39, Or.inl ⟨rfl, q848⟩⟩, Nat.le_of_ble_eq_true rfl, npl_39⟩
theorem ce412 : CE PP ynT ybT yrT yhT 412 := ⟨⟨pln_39, Or.inl ⟨rfl, q852⟩⟩, Nat.le_of_ble_eq_true rfl, npl_39⟩
theorem ce413 : CE PP ynT ybT yrT yhT 413 := ⟨⟨pln_39, Or.inl ⟨rfl, q1741⟩⟩, Nat.le_of_ble_eq_true rfl, npl_39⟩
theorem ce414 : CE PP ynT ybT yrT yhT 414 := ⟨⟨pln_39, Or.inl ⟨rfl, q1745⟩⟩, Nat.le_of_ble_eq_true rfl, npl_39⟩
theorem ce415 : CE PP ynT ybT yrT yhT 415 := ⟨⟨pln_39, Or.inl ⟨rfl, q1749⟩⟩, Nat.le_of_ble_eq_true rfl, npl_39⟩
theorem ce416 : CE PP ynT ybT yrT yhT 416 := ⟨⟨pln_39, Or.inl ⟨rfl, q1778⟩⟩, Nat.le_of_ble_eq_true rfl, npl_39⟩
theorem ce417 : CE PP ynT ybT yrT yhT 417 := ⟨⟨pln_41, Or.inl ⟨rfl, q412⟩⟩, Nat.le_of_ble_eq_true rfl, npl_41⟩
theorem ce419 : CE PP ynT ybT yrT yhT 419 := ⟨⟨pln_41, Or.inl ⟨rfl, q589⟩⟩, Nat.le_of_ble_eq_true rfl, npl_41⟩
theorem ce421 : CE PP ynT ybT yrT yhT 421 := ⟨⟨pln_41, Or.inl ⟨rfl, q1565⟩⟩, Nat.le_of_ble_eq_true rfl, npl_41⟩
theorem ce430 : CE PP ynT ybT yrT yhT 430 := ⟨⟨pln_29, Or.inl ⟨rfl, q422⟩⟩, Nat.le_of_ble_eq_true rfl, npl_29⟩
theorem ce431 : CE PP ynT ybT yrT yhT 431 := ⟨⟨pln_29, Or.inl ⟨rfl, q461⟩⟩, Nat.le_of_ble_eq_true rfl, npl_29⟩
theorem ce432 : CE PP ynT ybT yrT yhT 432 := ⟨⟨pln_29, Or.inl ⟨rfl, q1276⟩⟩, Nat.le_of_ble_eq_true rfl, npl_29⟩
theorem ce433 : CE PP ynT ybT yrT yhT 433 := ⟨⟨pln_29, Or.inl ⟨rfl, q1348⟩⟩, Nat.le_of_ble_eq_true rfl, npl_29⟩
theorem ce434 : CE PP ynT ybT yrT yhT 434 := ⟨⟨pln_29, Or.inl ⟨rfl, q1351⟩⟩, Nat.le_of_ble_eq_true rfl, npl_29⟩
theorem ce435 : CE PP ynT ybT yrT yhT 435 := ⟨⟨pln_29, Or.inl ⟨rfl, q1354⟩⟩, Nat.le_of_ble_eq_true rfl, npl_29⟩
theorem ce436 : CE PP ynT ybT yrT yhT 436 := ⟨⟨pln_29, Or.inl ⟨rfl, q1880⟩⟩, Nat.le_of_ble_eq_true rfl, npl_29⟩
theorem ce437 : CE PP ynT ybT yrT yhT 437 := ⟨⟨pln_29, Or.inl ⟨rfl, q2176⟩⟩, Nat.le_of_ble_eq_true rfl, npl_29⟩
theorem ce438 : CE PP ynT ybT yrT yhT 438 := ⟨⟨pln_29, Or.inl ⟨rfl, q2179⟩⟩, Nat.le_of_ble_eq_true rfl, npl_29⟩
theorem ce439 : CE PP ynT ybT yrT yhT 439 := ⟨⟨pln_18, Or.inl ⟨rfl, q496⟩⟩, Nat.le_of_ble_eq_true rfl, npl_18⟩
theorem ce440 : CE PP ynT ybT yrT yhT 440 := ⟨⟨pln_17, Or.inl ⟨rfl, q484⟩⟩, Nat.le_of_ble_eq_true rfl, npl_17⟩
theorem ce441 : CE PP ynT ybT yrT yhT 441 := ⟨⟨pln_17, Or.inl ⟨rfl, q493⟩⟩, Nat.le_of_ble_eq_true rfl, npl_17⟩
theorem ce442 : CE PP ynT ybT yrT yhT 442 := ⟨⟨pln_17, Or.inl ⟨rfl, q556⟩⟩, Nat.le_of_ble_eq_true rfl, npl_17⟩
theorem ce443 : CE PP ynT ybT yrT yhT 443 := ⟨⟨pln_17, Or.inl ⟨rfl, q560⟩⟩, Nat.le_of_ble_eq_true rfl, npl_17⟩
theorem ce444 : CE PP ynT ybT yrT yhT 444 := ⟨⟨pln_17, Or.inl ⟨rfl, q563⟩⟩, Nat.le_of_ble_eq_true rfl, npl_17⟩
theorem ce447 : CE PP ynT ybT yrT yhT 447 := ⟨⟨pln_17, Or.inl ⟨rfl, q1411⟩⟩, Nat.le_of_ble_eq_true rfl, npl_17⟩
theorem ce448 : CE PP ynT ybT yrT yhT 448 := ⟨⟨pln_17, Or.inl ⟨rfl, q1414⟩⟩, Nat.le_of_ble_eq_true rfl, npl_17⟩
theorem ce449 : CE PP ynT ybT yrT yhT 449 := ⟨⟨pln_17, Or.inl ⟨rfl, q1707⟩⟩, Nat.le_of_ble_eq_true rfl, npl_17⟩
theorem ce450 : CE PP ynT ybT yrT yhT 450 := ⟨⟨pln_17, Or.inl ⟨rfl, q1711⟩⟩, Nat.le_of_ble_eq_true rfl, npl_17⟩
theorem ce451 : CE PP ynT ybT yrT yhT 451 := ⟨⟨pln_21, Or.inl ⟨rfl, q582⟩⟩, Nat.le_of_ble_eq_true rfl, npl_21⟩
theorem ce452 : CE PP ynT ybT yrT yhT 452 := ⟨⟨pln_21, Or.inl ⟨rfl, q585⟩⟩, Nat.le_of_ble_eq_true rfl, npl_21⟩
theorem ce453 : CE PP ynT ybT yrT yhT 453 := ⟨⟨pln_21, Or.inl ⟨rfl, q693⟩⟩, Nat.le_of_ble_eq_true rfl, npl_21⟩
theorem ce454 : CE PP ynT ybT yrT yhT 454 := ⟨⟨pln_21, Or.inl ⟨rfl, q715⟩⟩, Nat.le_of_ble_eq_true rfl, npl_21⟩
theorem ce455 : CE PP ynT ybT yrT yhT 455 := ⟨⟨pln_21, Or.inl ⟨rfl, q718⟩⟩, Nat.le_of_ble_eq_true rfl, npl_21⟩
theorem ce456 : CE PP ynT ybT yrT yhT 456 := ⟨⟨pln_21, Or.inl ⟨rfl, q722⟩⟩, Nat.le_of_ble_eq_true rfl, npl_21⟩
theorem ce457 : CE PP ynT ybT yrT yhT 457 := ⟨⟨pln_21, Or.inl ⟨rfl, q764⟩⟩, Nat.le_of_ble_eq_true rfl, npl_21⟩
theorem ce458 : CE PP ynT ybT yrT yhT 458 := ⟨⟨pln_21, Or.inl ⟨rfl, q1284⟩⟩, Nat.le_of_ble_eq_true rfl, npl_21⟩
theorem ce459 : CE PP ynT ybT yrT yhT 459 := ⟨⟨pln_21, Or.inl ⟨rfl, q1291⟩⟩, Nat.le_of_ble_eq_true rfl, npl_21⟩
theorem ce460 : CE PP ynT ybT yrT yhT 460 := ⟨⟨pln_21, Or.inl ⟨rfl, q1562⟩⟩, Nat.le_of_ble_eq_true rfl, npl_21⟩
theorem ce461 : CE PP ynT ybT yrT yhT 461 := ⟨⟨pln_21, Or.inl ⟨rfl, q1619⟩⟩, Nat.le_of_ble_eq_true rfl, npl_21⟩
theorem ce462 : CE PP ynT ybT yrT yhT 462 := ⟨⟨pln_21, Or.inl ⟨rfl, q2173⟩⟩, Nat.le_of_ble_eq_true rfl, npl_21⟩
theorem ce463 : CE PP ynT ybT yrT yhT 463 := ⟨⟨pln_21, Or.inl ⟨rfl, q3435⟩⟩, Nat.le_of_ble_eq_true rfl, npl_21⟩
theorem ce479 : CE PP ynT ybT yrT yhT 479 := ⟨⟨pln_42, Or.inl ⟨rfl, q761⟩⟩, Nat.le_of_ble_eq_true rfl, npl_42⟩
theorem ce481 : CE PP ynT ybT yrT yhT 481 := ⟨⟨pln_42, Or.inl ⟨rfl, q1318⟩⟩, Nat.le_of_ble_eq_true rfl, npl_42⟩
theorem ce482 : CE PP ynT ybT yrT yhT 482 := ⟨⟨pln_40, Or.inl ⟨rfl, q794⟩⟩, Nat.le_of_ble_eq_true rfl, npl_40⟩
theorem ce483 : CE PP ynT ybT yrT yhT 483 := ⟨⟨pln_37, Or.inl ⟨rfl, q821⟩⟩, Nat.le_of_ble_eq_true rfl, npl_37⟩
theorem ce484 : CE PP ynT ybT yrT yhT 484 := ⟨⟨pln_37, Or.inl ⟨rfl, q1734⟩⟩, Nat.le_of_ble_eq_true rfl, npl_37⟩
theorem ce485 : CE PP ynT ybT yrT yhT 485 := ⟨⟨pln_37, Or.inl ⟨rfl, q2070⟩⟩, Nat.le_of_ble_eq_true rfl, npl_37⟩
theorem ce486 : CE PP ynT ybT yrT yhT 486 := ⟨⟨pln_31, Or.inl ⟨rfl, q1203⟩⟩, Nat.le_of_ble_eq_true rfl, npl_31⟩
theorem ce487 : CE PP ynT ybT yrT yhT 487 := ⟨⟨pln_36, Or.inl ⟨rfl, q1175⟩⟩, Nat.le_of_ble_eq_true rfl, npl_36⟩
theorem ce488 : CE PP ynT ybT yrT yhT 488 := ⟨⟨pln_32, Or.inl ⟨rfl, q478⟩⟩, Nat.le_of_ble_eq_true rfl, npl_32⟩
theorem ce489 : CE PP ynT ybT yrT yhT 489 := ⟨⟨pln_32, Or.inl ⟨rfl, q960⟩⟩, Nat.le_of_ble_eq_true rfl, npl_32⟩
theorem ce490 : CE PP ynT ybT yrT yhT 490 := ⟨⟨pln_32, Or.inl ⟨rfl, q1188⟩⟩, Nat.le_of_ble_eq_true rfl, npl_32⟩
theorem ce491 : CE PP ynT ybT yrT yhT 491 := ⟨⟨pln_32, Or.inl ⟨rfl, q1903⟩⟩, Nat.le_of_ble_eq_true rfl, npl_32⟩
theorem ce492 : CE PP ynT ybT yrT yhT 492 := ⟨⟨pln_33, Or.inl ⟨rfl, q1185⟩⟩, Nat.le_of_ble_eq_true rfl, npl_33⟩
theorem ce493 : CE PP ynT ybT yrT yhT 493 := ⟨⟨pln_33, Or.inl ⟨rfl, q1722⟩⟩, Nat.le_of_ble_eq_true rfl, npl_33⟩
theorem ce495 : CE PP ynT ybT yrT yhT 495 := ⟨⟨pln_33, Or.inl ⟨rfl, q2134⟩⟩, Nat.le_of_ble_eq_true rfl, npl_33⟩
theorem ce496 : CE PP ynT ybT yrT yhT 496 := ⟨⟨pln_33, Or.inl ⟨rfl, q2299⟩⟩, Nat.le_of_ble_eq_true rfl, npl_33⟩
theorem ce499 : CE PP ynT ybT yrT yhT 499 := ⟨⟨pln_34, Or.inl ⟨rfl, q1182⟩⟩, Nat.le_of_ble_eq_true rfl, npl_34⟩
theorem ce500 : CE PP ynT ybT yrT yhT 500 := ⟨⟨pln_34, Or.inl ⟨rfl, q1200⟩⟩, Nat.le_of_ble_eq_true rfl, npl_34⟩
theorem ce504 : CE PP ynT ybT yrT yhT 504 := ⟨⟨pln_35, Or.inl ⟨rfl, q946⟩⟩, Nat.le_of_ble_eq_true rfl, npl_35⟩
theorem ce505 : CE PP ynT ybT yrT yhT 505 := ⟨⟨pln_35, Or.inl ⟨rfl, q981⟩⟩, Nat.le_of_ble_eq_true rfl, npl_35⟩
theorem ce506 : CE PP ynT ybT yrT yhT 506 := ⟨⟨pln_35, Or.inl ⟨rfl, q1210⟩⟩, Nat.le_of_ble_eq_true rfl, npl_35⟩
theorem ce507 : CE PP ynT ybT yrT yhT 507 := ⟨⟨pln_35, Or.inl ⟨rfl, q1731⟩⟩, Nat.le_of_ble_eq_true rfl, npl_35⟩
theorem ce508 : CE PP ynT ybT yrT yhT 508 := ⟨⟨pln_35, Or.inl ⟨rfl, q2105⟩⟩, Nat.le_of_ble_eq_true rfl, npl_35⟩
theorem ce509 : CE PP ynT ybT yrT yhT 509 := ⟨⟨pln_35, Or.inl ⟨rfl, q2774⟩⟩, Nat.le_of_ble_eq_true rfl, npl_35⟩
theorem ce510 : CE PP ynT ybT yrT yhT 510 := ⟨⟨pln_30, Or.inl ⟨rfl, q1225⟩⟩, Nat.le_of_ble_eq_true rfl, npl_30⟩
theorem ce511 : CE PP ynT ybT yrT yhT 511 := ⟨⟨pln_30, Or.inl ⟨rfl, q1230⟩⟩, Nat.le_of_ble_eq_true rfl, npl_30⟩
theorem ce512 : CE PP ynT ybT yrT yhT 512 := ⟨⟨pln_30, Or.inl ⟨rfl, q1233⟩⟩, Nat.le_of_ble_eq_true rfl, npl_30⟩
theorem ce513 : CE PP ynT ybT yrT yhT 513 := ⟨⟨pln_30, Or.inl ⟨rfl, q1837⟩⟩, Nat.le_of_ble_eq_true rfl, npl_30⟩
theorem ce514 : CE PP ynT ybT yrT yhT 514 := ⟨⟨pln_30, Or.inl ⟨rfl, q1862⟩⟩, Nat.le_of_ble_eq_true rfl, npl_30⟩
theorem ce515 : CE PP ynT ybT yrT yhT 515 := ⟨⟨pln_30, Or.inl ⟨rfl, q1868⟩⟩, Nat.le_of_ble_eq_true rfl, npl_30⟩
theorem ce516 : CE PP ynT ybT yrT yhT 516 := ⟨⟨pln_30, Or.inl ⟨rfl, q1872⟩⟩, Nat.le_of_ble_eq_true rfl, npl_30⟩
theorem ce517 : CE PP ynT ybT yrT yhT 517 := ⟨⟨pln_30, Or.inl ⟨rfl, q1876⟩⟩, Nat.le_of_ble_eq_true rfl, npl_30⟩
theorem ce520 : CE PP ynT ybT yrT yhT 520 := ⟨⟨pln_22, Or.inl ⟨rfl, q1646⟩⟩, Nat.le_of_ble_eq_true rfl, npl_22⟩
theorem ce522 : CE PP ynT ybT yrT yhT 522 := ⟨⟨pln_16, Or.inl ⟨rfl, q1643⟩⟩, Nat.le_of_ble_eq_true rfl, npl_16⟩
theorem ce532 : CE PP ynT ybT yrT yhT 532 := ⟨⟨pln_28, Or.inl ⟨rfl, q2280⟩⟩, Nat.le_of_ble_eq_true rfl, npl_28⟩
theorem ce533 : CE PP ynT ybT yrT yhT 533 := ⟨⟨pln_28, Or.inl ⟨rfl, q2330⟩⟩, Nat.le_of_ble_eq_true rfl, npl_28⟩
theorem ce534 : CE PP ynT ybT yrT yhT 534 := ⟨⟨pln_28, Or.inl ⟨rfl, q2345⟩⟩, Nat.le_of_ble_eq_true rfl, npl_28⟩
theorem ce535 : CE PP ynT ybT yrT yhT 535 := ⟨⟨pln_28, Or.inl ⟨rfl, q2349⟩⟩, Nat.le_of_ble_eq_true rfl, npl_28⟩
theorem ce540 : CE PP ynT ybT yrT yhT 540 := ⟨⟨pln_26, Or.inl ⟨rfl, q2458⟩⟩, Nat.le_of_ble_eq_true rfl, npl_26⟩
theorem ce541 : CE PP ynT ybT yrT yhT 541 := ⟨⟨pln_26, Or.inl ⟨rfl, q2513⟩⟩, Nat.le_of_ble_eq_true rfl, npl_26⟩
theorem ce542 : CE PP ynT ybT yrT yhT 542 := ⟨⟨pln_38, Or.inl ⟨rfl, q953⟩⟩, Nat.le_of_ble_eq_true rfl, npl_38⟩
theorem ce543 : CE PP ynT ybT yrT yhT 543 := ⟨⟨pln_38, Or.inl ⟨rfl, q2452⟩⟩, Nat.le_of_ble_eq_true rfl, npl_38⟩
theorem ce544 : CE PP ynT ybT yrT yhT 544 := ⟨⟨pln_38, Or.inl ⟨rfl, q2455⟩⟩, Nat.le_of_ble_eq_true rfl, npl_38⟩
theorem ce545 : CE PP ynT ybT yrT yhT 545 := ⟨⟨pln_38, Or.inl ⟨rfl, q2479⟩⟩, Nat.le_of_ble_eq_true rfl, npl_38⟩
theorem ce546 : CE PP ynT ybT yrT yhT 546 := ⟨⟨pln_38, Or.inl ⟨rfl, q2483⟩⟩, Nat.le_of_ble_eq_true rfl, npl_38⟩
theorem ce547 : CE PP ynT ybT yrT yhT 547 := ⟨⟨pln_38, Or.inl ⟨rfl, q2487⟩⟩, Nat.le_of_ble_eq_true rfl, npl_38⟩
theorem ce548 : CE PP ynT ybT yrT yhT 548 := ⟨⟨pln_38, Or.inl ⟨rfl, q2492⟩⟩, Nat.le_of_ble_eq_true rfl, npl_38⟩
theorem ce549 : CE PP ynT ybT yrT yhT 549 := ⟨⟨pln_38, Or.inl ⟨rfl, q2495⟩⟩, Nat.le_of_ble_eq_true rfl, npl_38⟩
theorem ce550 : CE PP ynT ybT yrT yhT 550 := ⟨⟨pln_38, Or.inl ⟨rfl, q2500⟩⟩, Nat.le_of_ble_eq_true rfl, npl_38⟩
theorem ce551 : CE PP ynT ybT yrT yhT 551 := ⟨⟨pln_38, Or.inl ⟨rfl, q2507⟩⟩, Nat.le_of_ble_eq_true rfl, npl_38⟩
theorem ce552 : CE PP ynT ybT yrT yhT 552 := ⟨⟨pln_38, Or.inl ⟨rfl, q2518⟩⟩, Nat.le_of_ble_eq_true rfl, npl_38⟩
theorem ce553 : CE PP ynT ybT yrT yhT 553 := ⟨⟨pln_38, Or.inl ⟨rfl, q2521⟩⟩, Nat.le_of_ble_eq_true rfl, npl_38⟩
theorem ce554 : CE PP ynT ybT yrT yhT 554 := ⟨⟨pln_38, Or.inl ⟨rfl, q2524⟩⟩, Nat.le_of_ble_eq_true rfl, npl_38⟩
theorem pf_X1_25i : Fl2 (fun t k => FLs "BallotBus" 25 t k ∧ FPs "BallotBus" "<init>" 25 t k ∧ isR (cTy t k)) [(1, 0)] := ⟨⟨⟨rfl, Nat.le_of_ble_eq_true rfl, "BallotBus", (Or.inl q1086), (Or.inl rfl)⟩, ⟨tg1, Nat.le_of_ble_eq_true rfl, Or.inr ⟨rfl, rfl, q1086⟩⟩, isR_A⟩, trivial⟩
theorem pf_X1_34i : Fl2 (fun t k => FLs "BallotBus" 34 t k ∧ FPs "BallotBus" "<init>" 34 t k ∧ isR (cTy t k)) [(1, 3)] := ⟨⟨⟨rfl, Nat.le_of_ble_eq_true rfl, "BallotBus", (Or.inl q1089), (Or.inl rfl)⟩, ⟨tg1, Nat.le_of_ble_eq_true rfl, Or.inr ⟨rfl, rfl, q1089⟩⟩, isR_O⟩, trivial⟩
theorem pf_X1_38i : Fl2 (fun t k => FLs "BallotBus" 38 t k ∧ FPs "BallotBus" "<init>" 38 t k ∧ isR (cTy t k)) [(1, 4)] := ⟨⟨⟨rfl, Nat.le_of_ble_eq_true rfl, "BallotBus", (Or.inl q1091), (Or.inl rfl)⟩, ⟨tg1, Nat.le_of_ble_eq_true rfl, Or.inr ⟨rfl, rfl, q1091⟩⟩, isR_A⟩, trivial⟩
theorem pf_X1_42i {nm : String} : Fl2 (fun t k => FLs "BallotBus" 42 t k ∧ FPs "BallotBus" nm 42 t k ∧ isI (cTy t k) okI) [(1, 7)] := ⟨⟨⟨rfl, Nat.le_of_ble_eq_true rfl, "BallotBus", (Or.inl q1095), (Or.inl rfl)⟩, ⟨tg1, Nat.le_of_ble_eq_true rfl, Or.inl rfl⟩, isI_I⟩, trivial⟩
theorem pf_X1_46i : Fl2 (fun t k => FLs "BallotBus" 46 t k ∧ FPs "BallotBus" "<init>" 46 t k ∧ isR (cTy t k)) [(1, 8)] := ⟨⟨⟨rfl, Nat.le_of_ble_eq_true rfl, "BallotBus", (Or.inl q1096), (Or.inl rfl)⟩, ⟨tg1, Nat.le_of_ble_eq_true rfl, Or.inr ⟨rfl, rfl, q1096⟩⟩, isR_A⟩, trivial⟩
theorem pf_X1_50i : Fl2 (fun t k => FLs "BallotBus" 50 t k ∧ FPs "BallotBus" "<init>" 50 t k ∧ isR (cTy t k)) [(1, 9)] := ⟨⟨⟨rfl, Nat.le_of_ble_eq_true rfl, "BallotBus", (Or.inl q1097), (Or.inl rfl)⟩, ⟨tg1, Nat.le_of_ble_eq_true rfl, Or.inr ⟨rfl, rfl, q1097⟩⟩, isR_A⟩, trivial⟩
theorem pf_X1_53i : Fl2 (fun t k => FLs "BallotBus" 53 t k ∧ FPs "BallotBus" "<init>" 53 t k ∧ isR (cTy t k)) [(1, 10)] := ⟨⟨⟨rfl, Nat.le_of_ble_eq_true rfl, "BallotBus", (Or.inl q1098), (Or.inl rfl)⟩, ⟨tg1, Nat.le_of_ble_eq_true rfl, Or.inr ⟨rfl, rfl, q1098⟩⟩, isR_A⟩, trivial⟩
theorem pf_X1_59i : Fl2 (fun t k => FLs "BallotBus" 59 t k ∧ FPs "BallotBus" "<init>" 59 t k ∧ isR (cTy t k)) [(1, 12)] := ⟨⟨⟨rfl, Nat.le_of_ble_eq_true rfl, "BallotBus", (Or.inl q1100), (Or.inl rfl)⟩, ⟨tg1, Nat.le_of_ble_eq_true rfl, Or.inr ⟨rfl, rfl, q1100⟩⟩, isR_O⟩, trivial⟩
theorem gf_X1_25 : Fl2 (fun t k => FLs "BallotBus" 25 t k ∧ ∀ (G : Hp) (a : Nat), fval G a k (cTy t k) = rdR G a k) [(1, 0)] := ⟨⟨⟨rfl, Nat.le_of_ble_eq_true rfl, "BallotBus", (Or.inl q1086), (Or.inl rfl)⟩, fun _ _ => rfl⟩, trivial⟩
theorem pf_X1_81i {nm : String} : Fl2 (fun t k => FLs "BallotBus" 81 t k ∧ FPs "BallotBus" nm 81 t k ∧ isR (cTy t k)) [(1, 1)] := ⟨⟨⟨rfl, Nat.le_of_ble_eq_true rfl, "BallotBus", (Or.inl q1087), (Or.inl rfl)⟩, ⟨tg1, Nat.le_of_ble_eq_true rfl, Or.inl rfl⟩, isR_O⟩, trivial⟩
theorem gf_X1_107 : Fl2 (fun t k => FLs "BallotBus" 107 t k ∧ ∀ (G : Hp) (a : Nat), fval G a k (cTy t k) = rdI G a k) [(1, 5)] := ⟨⟨⟨rfl, Nat.le_of_ble_eq_true rfl, "BallotBus", (Or.inl q1093), (Or.inl rfl)⟩, fun _ _ => rfl⟩, trivial⟩
theorem gf_X1_38 : Fl2 (fun t k => FLs "BallotBus" 38 t k ∧ ∀ (G : Hp) (a : Nat), fval G a k (cTy t k) = rdR G a k) [(1, 4)] := ⟨⟨⟨rfl, Nat.le_of_ble_eq_true rfl, "BallotBus", (Or.inl q1091), (Or.inl rfl)⟩, fun _ _ => rfl⟩, trivial⟩
theorem pf_X1_107 {nm : String} : Fl2 (fun t k => FLs "BallotBus" 107 t k ∧ FPs "BallotBus" nm 107 t k ∧ isI (cTy t k) okI) [(1, 5)] := ⟨⟨⟨rfl, Nat.le_of_ble_eq_true rfl, "BallotBus", (Or.inl q1093), (Or.inl rfl)⟩, ⟨tg1, Nat.le_of_ble_eq_true rfl, Or.inl rfl⟩, isI_I⟩, trivial⟩
theorem pf_X1_118 {nm : String} : Fl2 (fun t k => FLs "BallotBus" 118 t k ∧ FPs "BallotBus" nm 118 t k ∧ isI (cTy t k) okI) [(1, 6)] := ⟨⟨⟨rfl, Nat.le_of_ble_eq_true rfl, "BallotBus", (Or.inl q1094), (Or.inl rfl)⟩, ⟨tg1, Nat.le_of_ble_eq_true rfl, Or.inl rfl⟩, isI_I⟩, trivial⟩
theorem pf_X1_42 {nm : String} : Fl2 (fun t k => FLs "BallotBus" 42 t k ∧ FPs "BallotBus" nm 42 t k ∧ isI (cTy t k) okI) [(1, 7)] := ⟨⟨⟨rfl, Nat.le_of_ble_eq_true rfl, "BallotBus", (Or.inl q1095), (Or.inl rfl)⟩, ⟨tg1, Nat.le_of_ble_eq_true rfl, Or.inl rfl⟩, isI_I⟩, trivial⟩
theorem gf_X1_130 : Fl2 (fun t k => FLs "BallotBus" 130 t k ∧ ∀ (G : Hp) (a : Nat), fval G a k (cTy t k) = rdI G a k) [(5, 7)] := ⟨⟨⟨rfl, Nat.le_of_ble_eq_true rfl, "BallotBus$Setup", (Or.inr ⟨_, List.mem_of_getElem? (i := 12) rfl⟩), (Or.inl rfl)⟩, fun _ _ => rfl⟩, trivial⟩
theorem pf_X1_81 {nm : String} : Fl2 (fun t k => FLs "BallotBus" 81 t k ∧ FPs "BallotBus" nm 81 t k ∧ isR (cTy t k)) [(1, 1)] := ⟨⟨⟨rfl, Nat.le_of_ble_eq_true rfl, "BallotBus", (Or.inl q1087), (Or.inl rfl)⟩, ⟨tg1, Nat.le_of_ble_eq_true rfl, Or.inl rfl⟩, isR_O⟩, trivial⟩
theorem gf_X1_34 : Fl2 (fun t k => FLs "BallotBus" 34 t k ∧ ∀ (G : Hp) (a : Nat), fval G a k (cTy t k) = rdR G a k) [(1, 3)] := ⟨⟨⟨rfl, Nat.le_of_ble_eq_true rfl, "BallotBus", (Or.inl q1089), (Or.inl rfl)⟩, fun _ _ => rfl⟩, trivial⟩
theorem pf_X1_136 {nm : String} : Fl2 (fun t k => FLs "BallotBus" 136 t k ∧ FPs "BallotBus" nm 136 t k ∧ isR (cTy t k)) [(1, 2)] := ⟨⟨⟨rfl, Nat.le_of_ble_eq_true rfl, "BallotBus", (Or.inl q1088), (Or.inl rfl)⟩, ⟨tg1, Nat.le_of_ble_eq_true rfl, Or.inl rfl⟩, isR_O⟩, trivial⟩
theorem gf_X1_144 : Fl2 (fun t k => FLs "BallotBus" 144 t k ∧ ∀ (G : Hp) (a : Nat), fval G a k (cTy t k) = rdI G a k) [(10, 6)] := ⟨⟨⟨rfl, Nat.le_of_ble_eq_true rfl, "BallotBus$ParseException", (Or.inr ⟨_, List.mem_of_getElem? (i := 66) rfl⟩), (Or.inl rfl)⟩, fun _ _ => rfl⟩, trivial⟩
theorem gf_X1_147 : Fl2 (fun t k => FLs "BallotBus" 147 t k ∧ ∀ (G : Hp) (a : Nat), fval G a k (cTy t k) = rdI G a k) [(10, 7)] := ⟨⟨⟨rfl, Nat.le_of_ble_eq_true rfl, "BallotBus$ParseException", (Or.inr ⟨_, List.mem_of_getElem? (i := 67) rfl⟩), (Or.inl rfl)⟩, fun _ _ => rfl⟩, trivial⟩
theorem gf_X1_118 : Fl2 (fun t k => FLs "BallotBus" 118 t k ∧ ∀ (G : Hp) (a : Nat), fval G a k (cTy t k) = rdI G a k) [(1, 6)] := ⟨⟨⟨rfl, Nat.le_of_ble_eq_true rfl, "BallotBus", (Or.inl q1094), (Or.inl rfl)⟩, fun _ _ => rfl⟩, trivial⟩
theorem gf_X1_42 : Fl2 (fun t k => FLs "BallotBus" 42 t k ∧ ∀ (G : Hp) (a : Nat), fval G a k (cTy t k) = rdI G a k) [(1, 7)] := ⟨⟨⟨rfl, Nat.le_of_ble_eq_true rfl, "BallotBus", (Or.inl q1095), (Or.inl rfl)⟩, fun _ _ => rfl⟩, trivial⟩
theorem gf_X1_81 : Fl2 (fun t k => FLs "BallotBus" 81 t k ∧ ∀ (G : Hp) (a : Nat), fval G a k (cTy t k) = rdR G a k) [(1, 1)] := ⟨⟨⟨rfl, Nat.le_of_ble_eq_true rfl, "BallotBus", (Or.inl q1087), (Or.inl rfl)⟩, fun _ _ => rfl⟩, trivial⟩
theorem gf_X1_155 : Fl2 (fun t k => FLs "BallotBus" 155 t k ∧ ∀ (G : Hp) (a : Nat), fval G a k (cTy t k) = rdI G a k) [(6, 18)] := ⟨⟨⟨rfl, Nat.le_of_ble_eq_true rfl, "BallotBus$Bus", (Or.inr ⟨_, List.mem_of_getElem? (i := 56) rfl⟩), (Or.inl rfl)⟩, fun _ _ => rfl⟩, trivial⟩
theorem gf_X1_158 : Fl2 (fun t k => FLs "BallotBus" 158 t k ∧ ∀ (G : Hp) (a : Nat), fval G a k (cTy t k) = rdR G a k) [(6, 16)] := ⟨⟨⟨rfl, Nat.le_of_ble_eq_true rfl, "BallotBus$Bus", (Or.inr ⟨_, List.mem_of_getElem? (i := 54) rfl⟩), (Or.inl rfl)⟩, fun _ _ => rfl⟩, trivial⟩
theorem gf_X1_164 : Fl2 (fun t k => FLs "BallotBus" 164 t k ∧ ∀ (G : Hp) (a : Nat), fval G a k (cTy t k) = rdI G a k) [(5, 8)] := ⟨⟨⟨rfl, Nat.le_of_ble_eq_true rfl, "BallotBus$Setup", (Or.inr ⟨_, List.mem_of_getElem? (i := 14) rfl⟩), (Or.inl rfl)⟩, fun _ _ => rfl⟩, trivial⟩
theorem gf_X1_167 : Fl2 (fun t k => FLs "BallotBus" 167 t k ∧ ∀ (G : Hp) (a : Nat), fval G a k (cTy t k) = rdI G a k) [(5, 9)] := ⟨⟨⟨rfl, Nat.le_of_ble_eq_true rfl, "BallotBus$Setup", (Or.inr ⟨_, List.mem_of_getElem? (i := 17) rfl⟩), (Or.inl rfl)⟩, fun _ _ => rfl⟩, trivial⟩
theorem gf_X1_170 : Fl2 (fun t k => FLs "BallotBus" 170 t k ∧ ∀ (G : Hp) (a : Nat), fval G a k (cTy t k) = rdI G a k) [(5, 10)] := ⟨⟨⟨rfl, Nat.le_of_ble_eq_true rfl, "BallotBus$Setup", (Or.inr ⟨_, List.mem_of_getElem? (i := 20) rfl⟩), (Or.inl rfl)⟩, fun _ _ => rfl⟩, trivial⟩
theorem gf_X1_173 : Fl2 (fun t k => FLs "BallotBus" 173 t k ∧ ∀ (G : Hp) (a : Nat), fval G a k (cTy t k) = rdI G a k) [(5, 11)] := ⟨⟨⟨rfl, Nat.le_of_ble_eq_true rfl, "BallotBus$Setup", (Or.inr ⟨_, List.mem_of_getElem? (i := 23) rfl⟩), (Or.inl rfl)⟩, fun _ _ => rfl⟩, trivial⟩
theorem gf_X1_176 : Fl2 (fun t k => FLs "BallotBus" 176 t k ∧ ∀ (G : Hp) (a : Nat), fval G a k (cTy t k) = rdI G a k) [(5, 12)] := ⟨⟨⟨rfl, Nat.le_of_ble_eq_true rfl, "BallotBus$Setup", (Or.inr ⟨_, List.mem_of_getElem? (i := 27) rfl⟩), (Or.inl rfl)⟩, fun _ _ => rfl⟩, trivial⟩
theorem gf_X1_179 : Fl2 (fun t k => FLs "BallotBus" 179 t k ∧ ∀ (G : Hp) (a : Nat), fval G a k (cTy t k) = rdR G a k) [(6, 13)] := ⟨⟨⟨rfl, Nat.le_of_ble_eq_true rfl, "BallotBus$Bus", (Or.inr ⟨_, List.mem_of_getElem? (i := 52) rfl⟩), (Or.inl rfl)⟩, fun _ _ => rfl⟩, trivial⟩
theorem gf_X1_182 : Fl2 (fun t k => FLs "BallotBus" 182 t k ∧ ∀ (G : Hp) (a : Nat), fval G a k (cTy t k) = rdI G a k) [(6, 21)] := ⟨⟨⟨rfl, Nat.le_of_ble_eq_true rfl, "BallotBus$Bus", (Or.inr ⟨_, List.mem_of_getElem? (i := 59) rfl⟩), (Or.inl rfl)⟩, fun _ _ => rfl⟩, trivial⟩
theorem gf_X1_185 : Fl2 (fun t k => FLs "BallotBus" 185 t k ∧ ∀ (G : Hp) (a : Nat), fval G a k (cTy t k) = rdI G a k) [(6, 20)] := ⟨⟨⟨rfl, Nat.le_of_ble_eq_true rfl, "BallotBus$Bus", (Or.inr ⟨_, List.mem_of_getElem? (i := 58) rfl⟩), (Or.inl rfl)⟩, fun _ _ => rfl⟩, trivial⟩
theorem gf_X1_188 : Fl2 (fun t k => FLs "BallotBus" 188 t k ∧ ∀ (G : Hp) (a : Nat), fval G a k (cTy t k) = rdI G a k) [(6, 23)] := ⟨⟨⟨rfl, Nat.le_of_ble_eq_true rfl, "BallotBus$Bus", (Or.inr ⟨_, List.mem_of_getElem? (i := 61) rfl⟩), (Or.inl rfl)⟩, fun _ _ => rfl⟩, trivial⟩
theorem gf_X1_191 : Fl2 (fun t k => FLs "BallotBus" 191 t k ∧ ∀ (G : Hp) (a : Nat), fval G a k (cTy t k) = rdI G a k) [(6, 24)] := ⟨⟨⟨rfl, Nat.le_of_ble_eq_true rfl, "BallotBus$Bus", (Or.inr ⟨_, List.mem_of_getElem? (i := 62) rfl⟩), (Or.inl rfl)⟩, fun _ _ => rfl⟩, trivial⟩
theorem gf_X1_194 : Fl2 (fun t k => FLs "BallotBus" 194 t k ∧ ∀ (G : Hp) (a : Nat), fval G a k (cTy t k) = rdI G a k) [(6, 22)] := ⟨⟨⟨rfl, Nat.le_of_ble_eq_true rfl, "BallotBus$Bus", (Or.inr ⟨_, List.mem_of_getElem? (i := 60) rfl⟩), (Or.inl rfl)⟩, fun _ _ => rfl⟩, trivial⟩
theorem gf_X1_85 : Fl2 (fun t k => FLs "BallotBus" 85 t k ∧ ∀ (G : Hp) (a : Nat), fval G a k (cTy t k) = rdR G a k) [(6, 0)] := ⟨⟨⟨rfl, Nat.le_of_ble_eq_true rfl, "BallotBus$Bus", (Or.inr ⟨_, List.mem_of_getElem? (i := 39) rfl⟩), (Or.inl rfl)⟩, fun _ _ => rfl⟩, trivial⟩
theorem gf_X1_200 : Fl2 (fun t k => FLs "BallotBus" 200 t k ∧ ∀ (G : Hp) (a : Nat), fval G a k (cTy t k) = rdR G a k) [(5, 1)] := ⟨⟨⟨rfl, Nat.le_of_ble_eq_true rfl, "BallotBus$Setup", (Or.inr ⟨_, List.mem_of_getElem? (i := 4) rfl⟩), (Or.inl rfl)⟩, fun _ _ => rfl⟩, trivial⟩
theorem gf_X1_204 : Fl2 (fun t k => FLs "BallotBus" 204 t k ∧ ∀ (G : Hp) (a : Nat), fval G a k (cTy t k) = rdR G a k) [(5, 0)] := ⟨⟨⟨rfl, Nat.le_of_ble_eq_true rfl, "BallotBus$Setup", (Or.inr ⟨_, List.mem_of_getElem? (i := 2) rfl⟩), (Or.inl rfl)⟩, fun _ _ => rfl⟩, trivial⟩
theorem gf_X1_322 : Fl2 (fun t k => FLs "BallotBus" 322 t k ∧ ∀ (G : Hp) (a : Nat), fval G a k (cTy t k) = rdR G a k) [(6, 17)] := ⟨⟨⟨rfl, Nat.le_of_ble_eq_true rfl, "BallotBus$Bus", (Or.inr ⟨_, List.mem_of_getElem? (i := 55) rfl⟩), (Or.inl rfl)⟩, fun _ _ => rfl⟩, trivial⟩
theorem gf_X1_306 : Fl2 (fun t k => FLs "BallotBus" 306 t k ∧ ∀ (G : Hp) (a : Nat), fval G a k (cTy t k) = rdI G a k) [(11, 0)] := ⟨⟨⟨rfl, Nat.le_of_ble_eq_true rfl, "BallotBus$Request", (Or.inr ⟨_, List.mem_of_getElem? (i := 70) rfl⟩), (Or.inl rfl)⟩, fun _ _ => rfl⟩, trivial⟩
theorem gf_X1_375 : Fl2 (fun t k => FLs "BallotBus" 375 t k ∧ ∀ (G : Hp) (a : Nat), fval G a k (cTy t k) = rdI G a k) [(7, 3)] := ⟨⟨⟨rfl, Nat.le_of_ble_eq_true rfl, "BallotBus$Sheet", (Or.inr ⟨_, List.mem_of_getElem? (i := 35) rfl⟩), (Or.inl rfl)⟩, fun _ _ => rfl⟩, trivial⟩
theorem gf_X1_377 : Fl2 (fun t k => FLs "BallotBus" 377 t k ∧ ∀ (G : Hp) (a : Nat), fval G a k (cTy t k) = rdI G a k) [(7, 4)] := ⟨⟨⟨rfl, Nat.le_of_ble_eq_true rfl, "BallotBus$Sheet", (Or.inr ⟨_, List.mem_of_getElem? (i := 37) rfl⟩), (Or.inl rfl)⟩, fun _ _ => rfl⟩, trivial⟩
theorem gf_X1_257 : Fl2 (fun t k => FLs "BallotBus" 257 t k ∧ ∀ (G : Hp) (a : Nat), fval G a k (cTy t k) = rdR G a k) [(5, 6)] := ⟨⟨⟨rfl, Nat.le_of_ble_eq_true rfl, "BallotBus$Setup", (Or.inr ⟨_, List.mem_of_getElem? (i := 11) rfl⟩), (Or.inl rfl)⟩, fun _ _ => rfl⟩, trivial⟩
theorem gf_X1_254 : Fl2 (fun t k => FLs "BallotBus" 254 t k ∧ ∀ (G : Hp) (a : Nat), fval G a k (cTy t k) = rdR G a k) [(6, 2)] := ⟨⟨⟨rfl, Nat.le_of_ble_eq_true rfl, "BallotBus$Bus", (Or.inr ⟨_, List.mem_of_getElem? (i := 41) rfl⟩), (Or.inl rfl)⟩, fun _ _ => rfl⟩, trivial⟩
theorem gf_X1_251 : Fl2 (fun t k => FLs "BallotBus" 251 t k ∧ ∀ (G : Hp) (a : Nat), fval G a k (cTy t k) = rdR G a k) [(6, 1)] := ⟨⟨⟨rfl, Nat.le_of_ble_eq_true rfl, "BallotBus$Bus", (Or.inr ⟨_, List.mem_of_getElem? (i := 40) rfl⟩), (Or.inl rfl)⟩, fun _ _ => rfl⟩, trivial⟩
theorem gf_X1_59 : Fl2 (fun t k => FLs "BallotBus" 59 t k ∧ ∀ (G : Hp) (a : Nat), fval G a k (cTy t k) = rdR G a k) [(1, 12)] := ⟨⟨⟨rfl, Nat.le_of_ble_eq_true rfl, "BallotBus", (Or.inl q1100), (Or.inl rfl)⟩, fun _ _ => rfl⟩, trivial⟩
theorem gf_X1_475 : Fl2 (fun t k => FLs "BallotBus" 475 t k ∧ ∀ (G : Hp) (a : Nat), fval G a k (cTy t k) = rdR G a k) [(5, 2)] := ⟨⟨⟨rfl, Nat.le_of_ble_eq_true rfl, "BallotBus$Setup", (Or.inr ⟨_, List.mem_of_getElem? (i := 5) rfl⟩), (Or.inl rfl)⟩, fun _ _ => rfl⟩, trivial⟩
theorem gf_X1_283 : Fl2 (fun t k => FLs "BallotBus" 283 t k ∧ ∀ (G : Hp) (a : Nat), fval G a k (cTy t k) = rdR G a k) [(6, 8)] := ⟨⟨⟨rfl, Nat.le_of_ble_eq_true rfl, "BallotBus$Bus", (Or.inr ⟨_, List.mem_of_getElem? (i := 47) rfl⟩), (Or.inl rfl)⟩, fun _ _ => rfl⟩, trivial⟩
theorem gf_X1_260 : Fl2 (fun t k => FLs "BallotBus" 260 t k ∧ ∀ (G : Hp) (a : Nat), fval G a k (cTy t k) = rdR G a k) [(6, 3)] := ⟨⟨⟨rfl, Nat.le_of_ble_eq_true rfl, "BallotBus$Bus", (Or.inr ⟨_, List.mem_of_getElem? (i := 42) rfl⟩), (Or.inl rfl)⟩, fun _ _ => rfl⟩, trivial⟩
theorem gf_X1_266 : Fl2 (fun t k => FLs "BallotBus" 266 t k ∧ ∀ (G : Hp) (a : Nat), fval G a k (cTy t k) = rdI G a k) [(6, 25)] := ⟨⟨⟨rfl, Nat.le_of_ble_eq_true rfl, "BallotBus$Bus", (Or.inr ⟨_, List.mem_of_getElem? (i := 63) rfl⟩), (Or.inl rfl)⟩, fun _ _ => rfl⟩, trivial⟩
theorem gf_X1_274 : Fl2 (fun t k => FLs "BallotBus" 274 t k ∧ ∀ (G : Hp) (a : Nat), fval G a k (cTy t k) = rdR G a k) [(6, 5)] := ⟨⟨⟨rfl, Nat.le_of_ble_eq_true rfl, "BallotBus$Bus", (Or.inr ⟨_, List.mem_of_getElem? (i := 44) rfl⟩), (Or.inl rfl)⟩, fun _ _ => rfl⟩, trivial⟩
theorem gf_X1_277 : Fl2 (fun t k => FLs "BallotBus" 277 t k ∧ ∀ (G : Hp) (a : Nat), fval G a k (cTy t k) = rdR G a k) [(6, 6)] := ⟨⟨⟨rfl, Nat.le_of_ble_eq_true rfl, "BallotBus$Bus", (Or.inr ⟨_, List.mem_of_getElem? (i := 45) rfl⟩), (Or.inl rfl)⟩, fun _ _ => rfl⟩, trivial⟩
theorem gf_X1_280 : Fl2 (fun t k => FLs "BallotBus" 280 t k ∧ ∀ (G : Hp) (a : Nat), fval G a k (cTy t k) = rdR G a k) [(6, 4)] := ⟨⟨⟨rfl, Nat.le_of_ble_eq_true rfl, "BallotBus$Bus", (Or.inr ⟨_, List.mem_of_getElem? (i := 43) rfl⟩), (Or.inl rfl)⟩, fun _ _ => rfl⟩, trivial⟩
theorem gf_X1_242 : Fl2 (fun t k => FLs "BallotBus" 242 t k ∧ ∀ (G : Hp) (a : Nat), fval G a k (cTy t k) = rdI G a k) [(11, 1)] := ⟨⟨⟨rfl, Nat.le_of_ble_eq_true rfl, "BallotBus$Request", (Or.inr ⟨_, List.mem_of_getElem? (i := 72) rfl⟩), (Or.inl rfl)⟩, fun _ _ => rfl⟩, trivial⟩
theorem gf_X1_245 : Fl2 (fun t k => FLs "BallotBus" 245 t k ∧ ∀ (G : Hp) (a : Nat), fval G a k (cTy t k) = rdI G a k) [(11, 2)] := ⟨⟨⟨rfl, Nat.le_of_ble_eq_true rfl, "BallotBus$Request", (Or.inr ⟨_, List.mem_of_getElem? (i := 74) rfl⟩), (Or.inl rfl)⟩, fun _ _ => rfl⟩, trivial⟩
theorem gf_X1_289 : Fl2 (fun t k => FLs "BallotBus" 289 t k ∧ ∀ (G : Hp) (a : Nat), fval G a k (cTy t k) = rdR G a k) [(6, 9)] := ⟨⟨⟨rfl, Nat.le_of_ble_eq_true rfl, "BallotBus$Bus", (Or.inr ⟨_, List.mem_of_getElem? (i := 48) rfl⟩), (Or.inl rfl)⟩, fun _ _ => rfl⟩, trivial⟩
theorem gf_X1_292 : Fl2 (fun t k => FLs "BallotBus" 292 t k ∧ ∀ (G : Hp) (a : Nat), fval G a k (cTy t k) = rdR G a k) [(6, 10)] := ⟨⟨⟨rfl, Nat.le_of_ble_eq_true rfl, "BallotBus$Bus", (Or.inr ⟨_, List.mem_of_getElem? (i := 49) rfl⟩), (Or.inl rfl)⟩, fun _ _ => rfl⟩, trivial⟩
theorem gf_X1_309 : Fl2 (fun t k => FLs "BallotBus" 309 t k ∧ ∀ (G : Hp) (a : Nat), fval G a k (cTy t k) = rdR G a k) [(6, 7)] := ⟨⟨⟨rfl, Nat.le_of_ble_eq_true rfl, "BallotBus$Bus", (Or.inr ⟨_, List.mem_of_getElem? (i := 46) rfl⟩), (Or.inl rfl)⟩, fun _ _ => rfl⟩, trivial⟩
theorem gf_X1_321 : Fl2 (fun t k => FLs "BallotBus" 321 t k ∧ ∀ (G : Hp) (a : Nat), fval G a k (cTy t k) = rdI G a k) [(11, 3)] := ⟨⟨⟨rfl, Nat.le_of_ble_eq_true rfl, "BallotBus$Request", (Or.inr ⟨_, List.mem_of_getElem? (i := 76) rfl⟩), (Or.inl rfl)⟩, fun _ _ => rfl⟩, trivial⟩
theorem gf_X1_326 : Fl2 (fun t k => FLs "BallotBus" 326 t k ∧ ∀ (G : Hp) (a : Nat), fval G a k (cTy t k) = rdI G a k) [(6, 19)] := ⟨⟨⟨rfl, Nat.le_of_ble_eq_true rfl, "BallotBus$Bus", (Or.inr ⟨_, List.mem_of_getElem? (i := 57) rfl⟩), (Or.inl rfl)⟩, fun _ _ => rfl⟩, trivial⟩
theorem gf_X1_329 : Fl2 (fun t k => FLs "BallotBus" 329 t k ∧ ∀ (G : Hp) (a : Nat), fval G a k (cTy t k) = rdI G a k) [(11, 4)] := ⟨⟨⟨rfl, Nat.le_of_ble_eq_true rfl, "BallotBus$Request", (Or.inr ⟨_, List.mem_of_getElem? (i := 78) rfl⟩), (Or.inl rfl)⟩, fun _ _ => rfl⟩, trivial⟩
theorem gf_X1_334 : Fl2 (fun t k => FLs "BallotBus" 334 t k ∧ ∀ (G : Hp) (a : Nat), fval G a k (cTy t k) = rdR G a k) [(6, 15)] := ⟨⟨⟨rfl, Nat.le_of_ble_eq_true rfl, "BallotBus$Bus", (Or.inr ⟨_, List.mem_of_getElem? (i := 53) rfl⟩), (Or.inl rfl)⟩, fun _ _ => rfl⟩, trivial⟩
theorem gf_X1_353 : Fl2 (fun t k => FLs "BallotBus" 353 t k ∧ ∀ (G : Hp) (a : Nat), fval G a k (cTy t k) = rdR G a k) [(6, 12)] := ⟨⟨⟨rfl, Nat.le_of_ble_eq_true rfl, "BallotBus$Bus", (Or.inr ⟨_, List.mem_of_getElem? (i := 51) rfl⟩), (Or.inl rfl)⟩, fun _ _ => rfl⟩, trivial⟩
theorem gf_X1_360 : Fl2 (fun t k => FLs "BallotBus" 360 t k ∧ ∀ (G : Hp) (a : Nat), fval G a k (cTy t k) = rdR G a k) [(7, 0)] := ⟨⟨⟨rfl, Nat.le_of_ble_eq_true rfl, "BallotBus$Sheet", (Or.inr ⟨_, List.mem_of_getElem? (i := 30) rfl⟩), (Or.inl rfl)⟩, fun _ _ => rfl⟩, trivial⟩
theorem gf_X1_365 : Fl2 (fun t k => FLs "BallotBus" 365 t k ∧ ∀ (G : Hp) (a : Nat), fval G a k (cTy t k) = rdR G a k) [(7, 1)] := ⟨⟨⟨rfl, Nat.le_of_ble_eq_true rfl, "BallotBus$Sheet", (Or.inr ⟨_, List.mem_of_getElem? (i := 32) rfl⟩), (Or.inl rfl)⟩, fun _ _ => rfl⟩, trivial⟩
theorem gf_X1_46 : Fl2 (fun t k => FLs "BallotBus" 46 t k ∧ ∀ (G : Hp) (a : Nat), fval G a k (cTy t k) = rdR G a k) [(1, 8)] := ⟨⟨⟨rfl, Nat.le_of_ble_eq_true rfl, "BallotBus", (Or.inl q1096), (Or.inl rfl)⟩, fun _ _ => rfl⟩, trivial⟩
theorem gf_X1_50 : Fl2 (fun t k => FLs "BallotBus" 50 t k ∧ ∀ (G : Hp) (a : Nat), fval G a k (cTy t k) = rdR G a k) [(1, 9)] := ⟨⟨⟨rfl, Nat.le_of_ble_eq_true rfl, "BallotBus", (Or.inl q1097), (Or.inl rfl)⟩, fun _ _ => rfl⟩, trivial⟩
theorem pf_X1_402 {nm : String} : Fl2 (fun t k => FLs "BallotBus" 402 t k ∧ FPs "BallotBus" nm 402 t k ∧ isI (cTy t k) okI) [(1, 11)] := ⟨⟨⟨rfl, Nat.le_of_ble_eq_true rfl, "BallotBus", (Or.inl q1099), (Or.inl rfl)⟩, ⟨tg1, Nat.le_of_ble_eq_true rfl, Or.inl rfl⟩, isI_I⟩, trivial⟩
theorem gf_X1_53 : Fl2 (fun t k => FLs "BallotBus" 53 t k ∧ ∀ (G : Hp) (a : Nat), fval G a k (cTy t k) = rdR G a k) [(1, 10)] := ⟨⟨⟨rfl, Nat.le_of_ble_eq_true rfl, "BallotBus", (Or.inl q1098), (Or.inl rfl)⟩, fun _ _ => rfl⟩, trivial⟩
theorem gf_X1_402 : Fl2 (fun t k => FLs "BallotBus" 402 t k ∧ ∀ (G : Hp) (a : Nat), fval G a k (cTy t k) = rdI G a k) [(1, 11)] := ⟨⟨⟨rfl, Nat.le_of_ble_eq_true rfl, "BallotBus", (Or.inl q1099), (Or.inl rfl)⟩, fun _ _ => rfl⟩, trivial⟩
theorem gf_X1_415 : Fl2 (fun t k => FLs "BallotBus" 415 t k ∧ ∀ (G : Hp) (a : Nat), fval G a k (cTy t k) = rdR G a k) [(6, 11)] := ⟨⟨⟨rfl, Nat.le_of_ble_eq_true rfl, "BallotBus$Bus", (Or.inr ⟨_, List.mem_of_getElem? (i := 50) rfl⟩), (Or.inl rfl)⟩, fun _ _ => rfl⟩, trivial⟩
theorem pf_X1_185 {nm : String} : Fl2 (fun t k => FLs "BallotBus" 185 t k ∧ FPs "BallotBus" nm 185 t k ∧ isI (cTy t k) okI) [(6, 20)] := ⟨⟨⟨rfl, Nat.le_of_ble_eq_true rfl, "BallotBus$Bus", (Or.inr ⟨_, List.mem_of_getElem? (i := 58) rfl⟩), (Or.inl rfl)⟩, ⟨tg6, Nat.le_of_ble_eq_true rfl, Or.inl rfl⟩, isI_I⟩, trivial⟩
theorem pf_X1_158 {nm : String} : Fl2 (fun t k => FLs "BallotBus" 158 t k ∧ FPs "BallotBus" nm 158 t k ∧ isR (cTy t k)) [(6, 16)] := ⟨⟨⟨rfl, Nat.le_of_ble_eq_true rfl, "BallotBus$Bus", (Or.inr ⟨_, List.mem_of_getElem? (i := 54) rfl⟩), (Or.inl rfl)⟩, ⟨tg6, Nat.le_of_ble_eq_true rfl, Or.inl rfl⟩, isR_O⟩, trivial⟩
theorem gf_X1_136 : Fl2 (fun t k => FLs "BallotBus" 136 t k ∧ ∀ (G : Hp) (a : Nat), fval G a k (cTy t k) = rdR G a k) [(1, 2)] := ⟨⟨⟨rfl, Nat.le_of_ble_eq_true rfl, "BallotBus", (Or.inl q1088), (Or.inl rfl)⟩, fun _ _ => rfl⟩, trivial⟩
theorem gf_X2_32 : Fl2 (fun t k => FLs "BallotBus$Tally" 32 t k ∧ ∀ (G : Hp) (a : Nat), fval G a k (cTy t k) = rdI G a k) [(7, 3)] := ⟨⟨⟨rfl, Nat.le_of_ble_eq_true rfl, "BallotBus$Sheet", (Or.inr ⟨_, List.mem_of_getElem? (i := 34) rfl⟩), (Or.inl rfl)⟩, fun _ _ => rfl⟩, trivial⟩
theorem pf_X3_12i : Fl2 (fun t k => FLs "BallotBus$Setup" 12 t k ∧ FPs "BallotBus$Setup" "<init>" 12 t k ∧ isR (cTy t k)) [(5, 0)] := ⟨⟨⟨rfl, Nat.le_of_ble_eq_true rfl, "BallotBus$Setup", (Or.inl q309), (Or.inl rfl)⟩, ⟨tg5, Nat.le_of_ble_eq_true rfl, Or.inr ⟨rfl, rfl, q309⟩⟩, isR_O⟩, trivial⟩
theorem pf_X3_18i : Fl2 (fun t k => FLs "BallotBus$Setup" 18 t k ∧ FPs "BallotBus$Setup" "<init>" 18 t k ∧ isR (cTy t k)) [(5, 1)] := ⟨⟨⟨rfl, Nat.le_of_ble_eq_true rfl, "BallotBus$Setup", (Or.inl q312), (Or.inl rfl)⟩, ⟨tg5, Nat.le_of_ble_eq_true rfl, Or.inr ⟨rfl, rfl, q312⟩⟩, isR_O⟩, trivial⟩
theorem pf_X3_24i : Fl2 (fun t k => FLs "BallotBus$Setup" 24 t k ∧ FPs "BallotBus$Setup" "<init>" 24 t k ∧ isR (cTy t k)) [(5, 2)] := ⟨⟨⟨rfl, Nat.le_of_ble_eq_true rfl, "BallotBus$Setup", (Or.inl q315), (Or.inl rfl)⟩, ⟨tg5, Nat.le_of_ble_eq_true rfl, Or.inr ⟨rfl, rfl, q315⟩⟩, isR_O⟩, trivial⟩
theorem pf_X3_28i : Fl2 (fun t k => FLs "BallotBus$Setup" 28 t k ∧ FPs "BallotBus$Setup" "<init>" 28 t k ∧ isR (cTy t k)) [(5, 3)] := ⟨⟨⟨rfl, Nat.le_of_ble_eq_true rfl, "BallotBus$Setup", (Or.inl q317), (Or.inl rfl)⟩, ⟨tg5, Nat.le_of_ble_eq_true rfl, Or.inr ⟨rfl, rfl, q317⟩⟩, isR_O⟩, trivial⟩
theorem pf_X3_31i : Fl2 (fun t k => FLs "BallotBus$Setup" 31 t k ∧ FPs "BallotBus$Setup" "<init>" 31 t k ∧ isR (cTy t k)) [(5, 4)] := ⟨⟨⟨rfl, Nat.le_of_ble_eq_true rfl, "BallotBus$Setup", (Or.inl q320), (Or.inl rfl)⟩, ⟨tg5, Nat.le_of_ble_eq_true rfl, Or.inr ⟨rfl, rfl, q320⟩⟩, isR_A⟩, trivial⟩
theorem pf_X3_35i : Fl2 (fun t k => FLs "BallotBus$Setup" 35 t k ∧ FPs "BallotBus$Setup" "<init>" 35 t k ∧ isR (cTy t k)) [(5, 5)] := ⟨⟨⟨rfl, Nat.le_of_ble_eq_true rfl, "BallotBus$Setup", (Or.inl q322), (Or.inl rfl)⟩, ⟨tg5, Nat.le_of_ble_eq_true rfl, Or.inr ⟨rfl, rfl, q322⟩⟩, isR_A⟩, trivial⟩
theorem pf_X3_38i : Fl2 (fun t k => FLs "BallotBus$Setup" 38 t k ∧ FPs "BallotBus$Setup" "<init>" 38 t k ∧ isR (cTy t k)) [(5, 6)] := ⟨⟨⟨rfl, Nat.le_of_ble_eq_true rfl, "BallotBus$Setup", (Or.inl q324), (Or.inl rfl)⟩, ⟨tg5, Nat.le_of_ble_eq_true rfl, Or.inr ⟨rfl, rfl, q324⟩⟩, isR_A⟩, trivial⟩
theorem pf_X3_41i {nm : String} : Fl2 (fun t k => FLs "BallotBus$Setup" 41 t k ∧ FPs "BallotBus$Setup" nm 41 t k ∧ isI (cTy t k) okI) [(5, 8)] := ⟨⟨⟨rfl, Nat.le_of_ble_eq_true rfl, "BallotBus$Setup", (Or.inl q329), (Or.inl rfl)⟩, ⟨tg5, Nat.le_of_ble_eq_true rfl, Or.inl rfl⟩, isI_I⟩, trivial⟩
theorem pf_X3_45i {nm : String} : Fl2 (fun t k => FLs "BallotBus$Setup" 45 t k ∧ FPs "BallotBus$Setup" nm 45 t k ∧ isI (cTy t k) okI) [(5, 9)] := ⟨⟨⟨rfl, Nat.le_of_ble_eq_true rfl, "BallotBus$Setup", (Or.inl q333), (Or.inl rfl)⟩, ⟨tg5, Nat.le_of_ble_eq_true rfl, Or.inl rfl⟩, isI_I⟩, trivial⟩
theorem pf_X3_48i {nm : String} : Fl2 (fun t k => FLs "BallotBus$Setup" 48 t k ∧ FPs "BallotBus$Setup" nm 48 t k ∧ isI (cTy t k) okI) [(5, 10)] := ⟨⟨⟨rfl, Nat.le_of_ble_eq_true rfl, "BallotBus$Setup", (Or.inl q337), (Or.inl rfl)⟩, ⟨tg5, Nat.le_of_ble_eq_true rfl, Or.inl rfl⟩, isI_I⟩, trivial⟩
theorem pf_X3_51i {nm : String} : Fl2 (fun t k => FLs "BallotBus$Setup" 51 t k ∧ FPs "BallotBus$Setup" nm 51 t k ∧ isI (cTy t k) okI) [(5, 12)] := ⟨⟨⟨rfl, Nat.le_of_ble_eq_true rfl, "BallotBus$Setup", (Or.inl q344), (Or.inl rfl)⟩, ⟨tg5, Nat.le_of_ble_eq_true rfl, Or.inl rfl⟩, isI_I⟩, trivial⟩
theorem gf_X3_31 : Fl2 (fun t k => FLs "BallotBus$Setup" 31 t k ∧ ∀ (G : Hp) (a : Nat), fval G a k (cTy t k) = rdR G a k) [(5, 4)] := ⟨⟨⟨rfl, Nat.le_of_ble_eq_true rfl, "BallotBus$Setup", (Or.inl q320), (Or.inl rfl)⟩, fun _ _ => rfl⟩, trivial⟩
theorem gf_X3_24 : Fl2 (fun t k => FLs "BallotBus$Setup" 24 t k ∧ ∀ (G : Hp) (a : Nat), fval G a k (cTy t k) = rdR G a k) [(5, 2)] := ⟨⟨⟨rfl, Nat.le_of_ble_eq_true rfl, "BallotBus$Setup", (Or.inl q315), (Or.inl rfl)⟩, fun _ _ => rfl⟩, trivial⟩
theorem gf_X3_12 : Fl2 (fun t k => FLs "BallotBus$Setup" 12 t k ∧ ∀ (G : Hp) (a : Nat), fval G a k (cTy t k) = rdR G a k) [(5, 0)] := ⟨⟨⟨rfl, Nat.le_of_ble_eq_true rfl, "BallotBus$Setup", (Or.inl q309), (Or.inl rfl)⟩, fun _ _ => rfl⟩, trivial⟩
theorem gf_X3_35 : Fl2 (fun t k => FLs "BallotBus$Setup" 35 t k ∧ ∀ (G : Hp) (a : Nat), fval G a k (cTy t k) = rdR G a k) [(5, 5)] := ⟨⟨⟨rfl, Nat.le_of_ble_eq_true rfl, "BallotBus$Setup", (Or.inl q322), (Or.inl rfl)⟩, fun _ _ => rfl⟩, trivial⟩
theorem gf_X3_38 : Fl2 (fun t k => FLs "BallotBus$Setup" 38 t k ∧ ∀ (G : Hp) (a : Nat), fval G a k (cTy t k) = rdR G a k) [(5, 6)] := ⟨⟨⟨rfl, Nat.le_of_ble_eq_true rfl, "BallotBus$Setup", (Or.inl q324), (Or.inl rfl)⟩, fun _ _ => rfl⟩, trivial⟩
theorem gf_X3_18 : Fl2 (fun t k => FLs "BallotBus$Setup" 18 t k ∧ ∀ (G : Hp) (a : Nat), fval G a k (cTy t k) = rdR G a k) [(5, 1)] := ⟨⟨⟨rfl, Nat.le_of_ble_eq_true rfl, "BallotBus$Setup", (Or.inl q312), (Or.inl rfl)⟩, fun _ _ => rfl⟩, trivial⟩
theorem pf_X4_9i : Fl2 (fun t k => FLs "BallotBus$Bus" 9 t k ∧ FPs "BallotBus$Bus" "<init>" 9 t k ∧ isR (cTy t k)) [(6, 1)] := ⟨⟨⟨rfl, Nat.le_of_ble_eq_true rfl, "BallotBus$Bus", (Or.inl q984), (Or.inl rfl)⟩, ⟨tg6, Nat.le_of_ble_eq_true rfl, Or.inr ⟨rfl, rfl, q984⟩⟩, isR_A⟩, trivial⟩
theorem pf_X4_15i : Fl2 (fun t k => FLs "BallotBus$Bus" 15 t k ∧ FPs "BallotBus$Bus" "<init>" 15 t k ∧ isR (cTy t k)) [(6, 2)] := ⟨⟨⟨rfl, Nat.le_of_ble_eq_true rfl, "BallotBus$Bus", (Or.inl q986), (Or.inl rfl)⟩, ⟨tg6, Nat.le_of_ble_eq_true rfl, Or.inr ⟨rfl, rfl, q986⟩⟩, isR_A⟩, trivial⟩
theorem pf_X4_18i : Fl2 (fun t k => FLs "BallotBus$Bus" 18 t k ∧ FPs "BallotBus$Bus" "<init>" 18 t k ∧ isR (cTy t k)) [(6, 3)] := ⟨⟨⟨rfl, Nat.le_of_ble_eq_true rfl, "BallotBus$Bus", (Or.inl q988), (Or.inl rfl)⟩, ⟨tg6, Nat.le_of_ble_eq_true rfl, Or.inr ⟨rfl, rfl, q988⟩⟩, isR_A⟩, trivial⟩
theorem pf_X4_21i : Fl2 (fun t k => FLs "BallotBus$Bus" 21 t k ∧ FPs "BallotBus$Bus" "<init>" 21 t k ∧ isR (cTy t k)) [(6, 4)] := ⟨⟨⟨rfl, Nat.le_of_ble_eq_true rfl, "BallotBus$Bus", (Or.inl q990), (Or.inl rfl)⟩, ⟨tg6, Nat.le_of_ble_eq_true rfl, Or.inr ⟨rfl, rfl, q990⟩⟩, isR_A⟩, trivial⟩
theorem pf_X4_24i : Fl2 (fun t k => FLs "BallotBus$Bus" 24 t k ∧ FPs "BallotBus$Bus" "<init>" 24 t k ∧ isR (cTy t k)) [(6, 5)] := ⟨⟨⟨rfl, Nat.le_of_ble_eq_true rfl, "BallotBus$Bus", (Or.inl q992), (Or.inl rfl)⟩, ⟨tg6, Nat.le_of_ble_eq_true rfl, Or.inr ⟨rfl, rfl, q992⟩⟩, isR_A⟩, trivial⟩
theorem pf_X4_27i : Fl2 (fun t k => FLs "BallotBus$Bus" 27 t k ∧ FPs "BallotBus$Bus" "<init>" 27 t k ∧ isR (cTy t k)) [(6, 6)] := ⟨⟨⟨rfl, Nat.le_of_ble_eq_true rfl, "BallotBus$Bus", (Or.inl q994), (Or.inl rfl)⟩, ⟨tg6, Nat.le_of_ble_eq_true rfl, Or.inr ⟨rfl, rfl, q994⟩⟩, isR_A⟩, trivial⟩
theorem pf_X4_30i : Fl2 (fun t k => FLs "BallotBus$Bus" 30 t k ∧ FPs "BallotBus$Bus" "<init>" 30 t k ∧ isR (cTy t k)) [(6, 7)] := ⟨⟨⟨rfl, Nat.le_of_ble_eq_true rfl, "BallotBus$Bus", (Or.inl q996), (Or.inl rfl)⟩, ⟨tg6, Nat.le_of_ble_eq_true rfl, Or.inr ⟨rfl, rfl, q996⟩⟩, isR_A⟩, trivial⟩
theorem pf_X4_33i : Fl2 (fun t k => FLs "BallotBus$Bus" 33 t k ∧ FPs "BallotBus$Bus" "<init>" 33 t k ∧ isR (cTy t k)) [(6, 8)] := ⟨⟨⟨rfl, Nat.le_of_ble_eq_true rfl, "BallotBus$Bus", (Or.inl q998), (Or.inl rfl)⟩, ⟨tg6, Nat.le_of_ble_eq_true rfl, Or.inr ⟨rfl, rfl, q998⟩⟩, isR_A⟩, trivial⟩
theorem pf_X4_36i : Fl2 (fun t k => FLs "BallotBus$Bus" 36 t k ∧ FPs "BallotBus$Bus" "<init>" 36 t k ∧ isR (cTy t k)) [(6, 9)] := ⟨⟨⟨rfl, Nat.le_of_ble_eq_true rfl, "BallotBus$Bus", (Or.inl q1000), (Or.inl rfl)⟩, ⟨tg6, Nat.le_of_ble_eq_true rfl, Or.inr ⟨rfl, rfl, q1000⟩⟩, isR_A⟩, trivial⟩
theorem pf_X4_39i : Fl2 (fun t k => FLs "BallotBus$Bus" 39 t k ∧ FPs "BallotBus$Bus" "<init>" 39 t k ∧ isR (cTy t k)) [(6, 10)] := ⟨⟨⟨rfl, Nat.le_of_ble_eq_true rfl, "BallotBus$Bus", (Or.inl q1002), (Or.inl rfl)⟩, ⟨tg6, Nat.le_of_ble_eq_true rfl, Or.inr ⟨rfl, rfl, q1002⟩⟩, isR_A⟩, trivial⟩
theorem pf_X4_42i : Fl2 (fun t k => FLs "BallotBus$Bus" 42 t k ∧ FPs "BallotBus$Bus" "<init>" 42 t k ∧ isR (cTy t k)) [(6, 11)] := ⟨⟨⟨rfl, Nat.le_of_ble_eq_true rfl, "BallotBus$Bus", (Or.inl q1004), (Or.inl rfl)⟩, ⟨tg6, Nat.le_of_ble_eq_true rfl, Or.inr ⟨rfl, rfl, q1004⟩⟩, isR_A⟩, trivial⟩
theorem pf_X4_45i : Fl2 (fun t k => FLs "BallotBus$Bus" 45 t k ∧ FPs "BallotBus$Bus" "<init>" 45 t k ∧ isR (cTy t k)) [(6, 12)] := ⟨⟨⟨rfl, Nat.le_of_ble_eq_true rfl, "BallotBus$Bus", (Or.inl q1006), (Or.inl rfl)⟩, ⟨tg6, Nat.le_of_ble_eq_true rfl, Or.inr ⟨rfl, rfl, q1006⟩⟩, isR_A⟩, trivial⟩
theorem pf_X4_51i : Fl2 (fun t k => FLs "BallotBus$Bus" 51 t k ∧ FPs "BallotBus$Bus" "<init>" 51 t k ∧ isR (cTy t k)) [(6, 13)] := ⟨⟨⟨rfl, Nat.le_of_ble_eq_true rfl, "BallotBus$Bus", (Or.inl q1008), (Or.inl rfl)⟩, ⟨tg6, Nat.le_of_ble_eq_true rfl, Or.inr ⟨rfl, rfl, q1008⟩⟩, isR_O⟩, trivial⟩
theorem pf_X4_66i : Fl2 (fun t k => FLs "BallotBus$Bus" 66 t k ∧ FPs "BallotBus$Bus" "<init>" 66 t k ∧ isR (cTy t k)) [(6, 15)] := ⟨⟨⟨rfl, Nat.le_of_ble_eq_true rfl, "BallotBus$Bus", (Or.inl q1011), (Or.inl rfl)⟩, ⟨tg6, Nat.le_of_ble_eq_true rfl, Or.inr ⟨rfl, rfl, q1011⟩⟩, isR_A⟩, trivial⟩
theorem pf_X4_70i : Fl2 (fun t k => FLs "BallotBus$Bus" 70 t k ∧ FPs "BallotBus$Bus" "<init>" 70 t k ∧ isR (cTy t k)) [(6, 0)] := ⟨⟨⟨rfl, Nat.le_of_ble_eq_true rfl, "BallotBus$Bus", (Or.inl q982), (Or.inl rfl)⟩, ⟨tg6, Nat.le_of_ble_eq_true rfl, Or.inr ⟨rfl, rfl, q982⟩⟩, isR_O⟩, trivial⟩
theorem pf_X4_74i {nm : String} : Fl2 (fun t k => FLs "BallotBus$Bus" 74 t k ∧ FPs "BallotBus$Bus" nm 74 t k ∧ isR (cTy t k)) [(6, 16)] := ⟨⟨⟨rfl, Nat.le_of_ble_eq_true rfl, "BallotBus$Bus", (Or.inl q1013), (Or.inl rfl)⟩, ⟨tg6, Nat.le_of_ble_eq_true rfl, Or.inl rfl⟩, isR_O⟩, trivial⟩
theorem pf_X4_89i : Fl2 (fun t k => FLs "BallotBus$Bus" 89 t k ∧ FPs "BallotBus$Bus" "<init>" 89 t k ∧ isR (cTy t k)) [(6, 14)] := ⟨⟨⟨rfl, Nat.le_of_ble_eq_true rfl, "BallotBus$Bus", (Or.inl q1010), (Or.inl rfl)⟩, ⟨tg6, Nat.le_of_ble_eq_true rfl, Or.inr ⟨rfl, rfl, q1010⟩⟩, isR_O⟩, trivial⟩
theorem gf_X4_9 : Fl2 (fun t k => FLs "BallotBus$Bus" 9 t k ∧ ∀ (G : Hp) (a : Nat), fval G a k (cTy t k) = rdR G a k) [(6, 1)] := ⟨⟨⟨rfl, Nat.le_of_ble_eq_true rfl, "BallotBus$Bus", (Or.inl q984), (Or.inl rfl)⟩, fun _ _ => rfl⟩, trivial⟩
theorem gf_X4_93 : Fl2 (fun t k => FLs "BallotBus$Bus" 93 t k ∧ ∀ (G : Hp) (a : Nat), fval G a k (cTy t k) = rdR G a k) [(5, 5)] := ⟨⟨⟨rfl, Nat.le_of_ble_eq_true rfl, "BallotBus$Setup", (Or.inr ⟨_, List.mem_of_getElem? (i := 9) rfl⟩), (Or.inl rfl)⟩, fun _ _ => rfl⟩, trivial⟩
theorem gf_X4_30 : Fl2 (fun t k => FLs "BallotBus$Bus" 30 t k ∧ ∀ (G : Hp) (a : Nat), fval G a k (cTy t k) = rdR G a k) [(6, 7)] := ⟨⟨⟨rfl, Nat.le_of_ble_eq_true rfl, "BallotBus$Bus", (Or.inl q996), (Or.inl rfl)⟩, fun _ _ => rfl⟩, trivial⟩
theorem gf_X4_33 : Fl2 (fun t k => FLs "BallotBus$Bus" 33 t k ∧ ∀ (G : Hp) (a : Nat), fval G a k (cTy t k) = rdR G a k) [(6, 8)] := ⟨⟨⟨rfl, Nat.le_of_ble_eq_true rfl, "BallotBus$Bus", (Or.inl q998), (Or.inl rfl)⟩, fun _ _ => rfl⟩, trivial⟩
theorem gf_X4_36 : Fl2 (fun t k => FLs "BallotBus$Bus" 36 t k ∧ ∀ (G : Hp) (a : Nat), fval G a k (cTy t k) = rdR G a k) [(6, 9)] := ⟨⟨⟨rfl, Nat.le_of_ble_eq_true rfl, "BallotBus$Bus", (Or.inl q1000), (Or.inl rfl)⟩, fun _ _ => rfl⟩, trivial⟩
theorem gf_X4_94 : Fl2 (fun t k => FLs "BallotBus$Bus" 94 t k ∧ ∀ (G : Hp) (a : Nat), fval G a k (cTy t k) = rdR G a k) [(5, 4)] := ⟨⟨⟨rfl, Nat.le_of_ble_eq_true rfl, "BallotBus$Setup", (Or.inr ⟨_, List.mem_of_getElem? (i := 8) rfl⟩), (Or.inl rfl)⟩, fun _ _ => rfl⟩, trivial⟩
theorem gf_X4_51 : Fl2 (fun t k => FLs "BallotBus$Bus" 51 t k ∧ ∀ (G : Hp) (a : Nat), fval G a k (cTy t k) = rdR G a k) [(6, 13)] := ⟨⟨⟨rfl, Nat.le_of_ble_eq_true rfl, "BallotBus$Bus", (Or.inl q1008), (Or.inl rfl)⟩, fun _ _ => rfl⟩, trivial⟩
theorem gf_X4_95 : Fl2 (fun t k => FLs "BallotBus$Bus" 95 t k ∧ ∀ (G : Hp) (a : Nat), fval G a k (cTy t k) = rdR G a k) [(5, 3)] := ⟨⟨⟨rfl, Nat.le_of_ble_eq_true rfl, "BallotBus$Setup", (Or.inr ⟨_, List.mem_of_getElem? (i := 6) rfl⟩), (Or.inl rfl)⟩, fun _ _ => rfl⟩, trivial⟩
theorem pf_X4_107i {nm : String} : Fl2 (fun t k => FLs "BallotBus$Bus" 107 t k ∧ FPs "BallotBus$Bus" nm 107 t k ∧ isI (cTy t k) okI) [(6, 20)] := ⟨⟨⟨rfl, Nat.le_of_ble_eq_true rfl, "BallotBus$Bus", (Or.inl q1021), (Or.inl rfl)⟩, ⟨tg6, Nat.le_of_ble_eq_true rfl, Or.inl rfl⟩, isI_I⟩, trivial⟩
theorem gf_X4_214 : Fl2 (fun t k => FLs "BallotBus$Bus" 214 t k ∧ ∀ (G : Hp) (a : Nat), fval G a k (cTy t k) = rdI G a k) [(11, 0)] := ⟨⟨⟨rfl, Nat.le_of_ble_eq_true rfl, "BallotBus$Request", (Or.inr ⟨_, List.mem_of_getElem? (i := 69) rfl⟩), (Or.inl rfl)⟩, fun _ _ => rfl⟩, trivial⟩
theorem gf_X4_211 : Fl2 (fun t k => FLs "BallotBus$Bus" 211 t k ∧ ∀ (G : Hp) (a : Nat), fval G a k (cTy t k) = rdI G a k) [(11, 3)] := ⟨⟨⟨rfl, Nat.le_of_ble_eq_true rfl, "BallotBus$Request", (Or.inr ⟨_, List.mem_of_getElem? (i := 75) rfl⟩), (Or.inl rfl)⟩, fun _ _ => rfl⟩, trivial⟩
theorem gf_X4_227 : Fl2 (fun t k => FLs "BallotBus$Bus" 227 t k ∧ ∀ (G : Hp) (a : Nat), fval G a k (cTy t k) = rdI G a k) [(11, 1)] := ⟨⟨⟨rfl, Nat.le_of_ble_eq_true rfl, "BallotBus$Request", (Or.inr ⟨_, List.mem_of_getElem? (i := 71) rfl⟩), (Or.inl rfl)⟩, fun _ _ => rfl⟩, trivial⟩
theorem gf_X4_15 : Fl2 (fun t k => FLs "BallotBus$Bus" 15 t k ∧ ∀ (G : Hp) (a : Nat), fval G a k (cTy t k) = rdR G a k) [(6, 2)] := ⟨⟨⟨rfl, Nat.le_of_ble_eq_true rfl, "BallotBus$Bus", (Or.inl q986), (Or.inl rfl)⟩, fun _ _ => rfl⟩, trivial⟩
theorem gf_X4_89 : Fl2 (fun t k => FLs "BallotBus$Bus" 89 t k ∧ ∀ (G : Hp) (a : Nat), fval G a k (cTy t k) = rdR G a k) [(6, 14)] := ⟨⟨⟨rfl, Nat.le_of_ble_eq_true rfl, "BallotBus$Bus", (Or.inl q1010), (Or.inl rfl)⟩, fun _ _ => rfl⟩, trivial⟩
theorem gf_X4_70 : Fl2 (fun t k => FLs "BallotBus$Bus" 70 t k ∧ ∀ (G : Hp) (a : Nat), fval G a k (cTy t k) = rdR G a k) [(6, 0)] := ⟨⟨⟨rfl, Nat.le_of_ble_eq_true rfl, "BallotBus$Bus", (Or.inl q982), (Or.inl rfl)⟩, fun _ _ => rfl⟩, trivial⟩
theorem gf_X4_163 : Fl2 (fun t k => FLs "BallotBus$Bus" 163 t k ∧ ∀ (G : Hp) (a : Nat), fval G a k (cTy t k) = rdR G a k) [(5, 6)] := ⟨⟨⟨rfl, Nat.le_of_ble_eq_true rfl, "BallotBus$Setup", (Or.inr ⟨_, List.mem_of_getElem? (i := 10) rfl⟩), (Or.inl rfl)⟩, fun _ _ => rfl⟩, trivial⟩
theorem gf_X4_18 : Fl2 (fun t k => FLs "BallotBus$Bus" 18 t k ∧ ∀ (G : Hp) (a : Nat), fval G a k (cTy t k) = rdR G a k) [(6, 3)] := ⟨⟨⟨rfl, Nat.le_of_ble_eq_true rfl, "BallotBus$Bus", (Or.inl q988), (Or.inl rfl)⟩, fun _ _ => rfl⟩, trivial⟩
theorem gf_X4_153 : Fl2 (fun t k => FLs "BallotBus$Bus" 153 t k ∧ ∀ (G : Hp) (a : Nat), fval G a k (cTy t k) = rdI G a k) [(5, 12)] := ⟨⟨⟨rfl, Nat.le_of_ble_eq_true rfl, "BallotBus$Setup", (Or.inr ⟨_, List.mem_of_getElem? (i := 26) rfl⟩), (Or.inl rfl)⟩, fun _ _ => rfl⟩, trivial⟩
theorem gf_X4_74 : Fl2 (fun t k => FLs "BallotBus$Bus" 74 t k ∧ ∀ (G : Hp) (a : Nat), fval G a k (cTy t k) = rdR G a k) [(6, 16)] := ⟨⟨⟨rfl, Nat.le_of_ble_eq_true rfl, "BallotBus$Bus", (Or.inl q1013), (Or.inl rfl)⟩, fun _ _ => rfl⟩, trivial⟩
theorem gf_X4_21 : Fl2 (fun t k => FLs "BallotBus$Bus" 21 t k ∧ ∀ (G : Hp) (a : Nat), fval G a k (cTy t k) = rdR G a k) [(6, 4)] := ⟨⟨⟨rfl, Nat.le_of_ble_eq_true rfl, "BallotBus$Bus", (Or.inl q990), (Or.inl rfl)⟩, fun _ _ => rfl⟩, trivial⟩
theorem gf_X4_24 : Fl2 (fun t k => FLs "BallotBus$Bus" 24 t k ∧ ∀ (G : Hp) (a : Nat), fval G a k (cTy t k) = rdR G a k) [(6, 5)] := ⟨⟨⟨rfl, Nat.le_of_ble_eq_true rfl, "BallotBus$Bus", (Or.inl q992), (Or.inl rfl)⟩, fun _ _ => rfl⟩, trivial⟩
theorem gf_X4_27 : Fl2 (fun t k => FLs "BallotBus$Bus" 27 t k ∧ ∀ (G : Hp) (a : Nat), fval G a k (cTy t k) = rdR G a k) [(6, 6)] := ⟨⟨⟨rfl, Nat.le_of_ble_eq_true rfl, "BallotBus$Bus", (Or.inl q994), (Or.inl rfl)⟩, fun _ _ => rfl⟩, trivial⟩
theorem gf_X4_39 : Fl2 (fun t k => FLs "BallotBus$Bus" 39 t k ∧ ∀ (G : Hp) (a : Nat), fval G a k (cTy t k) = rdR G a k) [(6, 10)] := ⟨⟨⟨rfl, Nat.le_of_ble_eq_true rfl, "BallotBus$Bus", (Or.inl q1002), (Or.inl rfl)⟩, fun _ _ => rfl⟩, trivial⟩
theorem gf_X4_42 : Fl2 (fun t k => FLs "BallotBus$Bus" 42 t k ∧ ∀ (G : Hp) (a : Nat), fval G a k (cTy t k) = rdR G a k) [(6, 11)] := ⟨⟨⟨rfl, Nat.le_of_ble_eq_true rfl, "BallotBus$Bus", (Or.inl q1004), (Or.inl rfl)⟩, fun _ _ => rfl⟩, trivial⟩
theorem gf_X4_45 : Fl2 (fun t k => FLs "BallotBus$Bus" 45 t k ∧ ∀ (G : Hp) (a : Nat), fval G a k (cTy t k) = rdR G a k) [(6, 12)] := ⟨⟨⟨rfl, Nat.le_of_ble_eq_true rfl, "BallotBus$Bus", (Or.inl q1006), (Or.inl rfl)⟩, fun _ _ => rfl⟩, trivial⟩
theorem gf_X4_127 : Fl2 (fun t k => FLs "BallotBus$Bus" 127 t k ∧ ∀ (G : Hp) (a : Nat), fval G a k (cTy t k) = rdR G a k) [(6, 17)] := ⟨⟨⟨rfl, Nat.le_of_ble_eq_true rfl, "BallotBus$Bus", (Or.inl q1015), (Or.inl rfl)⟩, fun _ _ => rfl⟩, trivial⟩
theorem pf_X4_127 {nm : String} : Fl2 (fun t k => FLs "BallotBus$Bus" 127 t k ∧ FPs "BallotBus$Bus" nm 127 t k ∧ isR (cTy t k)) [(6, 17)] := ⟨⟨⟨rfl, Nat.le_of_ble_eq_true rfl, "BallotBus$Bus", (Or.inl q1015), (Or.inl rfl)⟩, ⟨tg6, Nat.le_of_ble_eq_true rfl, Or.inl rfl⟩, isR_O⟩, trivial⟩
theorem gf_X4_131 : Fl2 (fun t k => FLs "BallotBus$Bus" 131 t k ∧ ∀ (G : Hp) (a : Nat), fval G a k (cTy t k) = rdI G a k) [(6, 18)] := ⟨⟨⟨rfl, Nat.le_of_ble_eq_true rfl, "BallotBus$Bus", (Or.inl q1017), (Or.inl rfl)⟩, fun _ _ => rfl⟩, trivial⟩
theorem pf_X4_131 {nm : String} : Fl2 (fun t k => FLs "BallotBus$Bus" 131 t k ∧ FPs "BallotBus$Bus" nm 131 t k ∧ isI (cTy t k) okI) [(6, 18)] := ⟨⟨⟨rfl, Nat.le_of_ble_eq_true rfl, "BallotBus$Bus", (Or.inl q1017), (Or.inl rfl)⟩, ⟨tg6, Nat.le_of_ble_eq_true rfl, Or.inl rfl⟩, isI_I⟩, trivial⟩
theorem gf_X4_134 : Fl2 (fun t k => FLs "BallotBus$Bus" 134 t k ∧ ∀ (G : Hp) (a : Nat), fval G a k (cTy t k) = rdI G a k) [(6, 19)] := ⟨⟨⟨rfl, Nat.le_of_ble_eq_true rfl, "BallotBus$Bus", (Or.inl q1019), (Or.inl rfl)⟩, fun _ _ => rfl⟩, trivial⟩
theorem pf_X4_134 {nm : String} : Fl2 (fun t k => FLs "BallotBus$Bus" 134 t k ∧ FPs "BallotBus$Bus" nm 134 t k ∧ isI (cTy t k) okI) [(6, 19)] := ⟨⟨⟨rfl, Nat.le_of_ble_eq_true rfl, "BallotBus$Bus", (Or.inl q1019), (Or.inl rfl)⟩, ⟨tg6, Nat.le_of_ble_eq_true rfl, Or.inl rfl⟩, isI_I⟩, trivial⟩
theorem gf_X4_107 : Fl2 (fun t k => FLs "BallotBus$Bus" 107 t k ∧ ∀ (G : Hp) (a : Nat), fval G a k (cTy t k) = rdI G a k) [(6, 20)] := ⟨⟨⟨rfl, Nat.le_of_ble_eq_true rfl, "BallotBus$Bus", (Or.inl q1021), (Or.inl rfl)⟩, fun _ _ => rfl⟩, trivial⟩
theorem pf_X4_107 {nm : String} : Fl2 (fun t k => FLs "BallotBus$Bus" 107 t k ∧ FPs "BallotBus$Bus" nm 107 t k ∧ isI (cTy t k) okI) [(6, 20)] := ⟨⟨⟨rfl, Nat.le_of_ble_eq_true rfl, "BallotBus$Bus", (Or.inl q1021), (Or.inl rfl)⟩, ⟨tg6, Nat.le_of_ble_eq_true rfl, Or.inl rfl⟩, isI_I⟩, trivial⟩
theorem gf_X4_137 : Fl2 (fun t k => FLs "BallotBus$Bus" 137 t k ∧ ∀ (G : Hp) (a : Nat), fval G a k (cTy t k) = rdI G a k) [(6, 21)] := ⟨⟨⟨rfl, Nat.le_of_ble_eq_true rfl, "BallotBus$Bus", (Or.inl q1023), (Or.inl rfl)⟩, fun _ _ => rfl⟩, trivial⟩
theorem pf_X4_137 {nm : String} : Fl2 (fun t k => FLs "BallotBus$Bus" 137 t k ∧ FPs "BallotBus$Bus" nm 137 t k ∧ isI (cTy t k) okI) [(6, 21)] := ⟨⟨⟨rfl, Nat.le_of_ble_eq_true rfl, "BallotBus$Bus", (Or.inl q1023), (Or.inl rfl)⟩, ⟨tg6, Nat.le_of_ble_eq_true rfl, Or.inl rfl⟩, isI_I⟩, trivial⟩
theorem gf_X4_140 : Fl2 (fun t k => FLs "BallotBus$Bus" 140 t k ∧ ∀ (G : Hp) (a : Nat), fval G a k (cTy t k) = rdI G a k) [(6, 22)] := ⟨⟨⟨rfl, Nat.le_of_ble_eq_true rfl, "BallotBus$Bus", (Or.inl q1025), (Or.inl rfl)⟩, fun _ _ => rfl⟩, trivial⟩
theorem pf_X4_140 {nm : String} : Fl2 (fun t k => FLs "BallotBus$Bus" 140 t k ∧ FPs "BallotBus$Bus" nm 140 t k ∧ isI (cTy t k) okI) [(6, 22)] := ⟨⟨⟨rfl, Nat.le_of_ble_eq_true rfl, "BallotBus$Bus", (Or.inl q1025), (Or.inl rfl)⟩, ⟨tg6, Nat.le_of_ble_eq_true rfl, Or.inl rfl⟩, isI_I⟩, trivial⟩
theorem gf_X4_143 : Fl2 (fun t k => FLs "BallotBus$Bus" 143 t k ∧ ∀ (G : Hp) (a : Nat), fval G a k (cTy t k) = rdI G a k) [(6, 23)] := ⟨⟨⟨rfl, Nat.le_of_ble_eq_true rfl, "BallotBus$Bus", (Or.inl q1027), (Or.inl rfl)⟩, fun _ _ => rfl⟩, trivial⟩
theorem pf_X4_143 {nm : String} : Fl2 (fun t k => FLs "BallotBus$Bus" 143 t k ∧ FPs "BallotBus$Bus" nm 143 t k ∧ isI (cTy t k) okI) [(6, 23)] := ⟨⟨⟨rfl, Nat.le_of_ble_eq_true rfl, "BallotBus$Bus", (Or.inl q1027), (Or.inl rfl)⟩, ⟨tg6, Nat.le_of_ble_eq_true rfl, Or.inl rfl⟩, isI_I⟩, trivial⟩
theorem gf_X4_146 : Fl2 (fun t k => FLs "BallotBus$Bus" 146 t k ∧ ∀ (G : Hp) (a : Nat), fval G a k (cTy t k) = rdI G a k) [(6, 24)] := ⟨⟨⟨rfl, Nat.le_of_ble_eq_true rfl, "BallotBus$Bus", (Or.inl q1029), (Or.inl rfl)⟩, fun _ _ => rfl⟩, trivial⟩
theorem pf_X4_146 {nm : String} : Fl2 (fun t k => FLs "BallotBus$Bus" 146 t k ∧ FPs "BallotBus$Bus" nm 146 t k ∧ isI (cTy t k) okI) [(6, 24)] := ⟨⟨⟨rfl, Nat.le_of_ble_eq_true rfl, "BallotBus$Bus", (Or.inl q1029), (Or.inl rfl)⟩, ⟨tg6, Nat.le_of_ble_eq_true rfl, Or.inl rfl⟩, isI_I⟩, trivial⟩
theorem gf_X4_149 : Fl2 (fun t k => FLs "BallotBus$Bus" 149 t k ∧ ∀ (G : Hp) (a : Nat), fval G a k (cTy t k) = rdI G a k) [(6, 25)] := ⟨⟨⟨rfl, Nat.le_of_ble_eq_true rfl, "BallotBus$Bus", (Or.inl q1031), (Or.inl rfl)⟩, fun _ _ => rfl⟩, trivial⟩
theorem pf_X4_149 {nm : String} : Fl2 (fun t k => FLs "BallotBus$Bus" 149 t k ∧ FPs "BallotBus$Bus" nm 149 t k ∧ isI (cTy t k) okZ) [(6, 25)] := ⟨⟨⟨rfl, Nat.le_of_ble_eq_true rfl, "BallotBus$Bus", (Or.inl q1031), (Or.inl rfl)⟩, ⟨tg6, Nat.le_of_ble_eq_true rfl, Or.inl rfl⟩, isI_Z⟩, trivial⟩
theorem gf_X4_231 : Fl2 (fun t k => FLs "BallotBus$Bus" 231 t k ∧ ∀ (G : Hp) (a : Nat), fval G a k (cTy t k) = rdI G a k) [(5, 9)] := ⟨⟨⟨rfl, Nat.le_of_ble_eq_true rfl, "BallotBus$Setup", (Or.inr ⟨_, List.mem_of_getElem? (i := 19) rfl⟩), (Or.inl rfl)⟩, fun _ _ => rfl⟩, trivial⟩
theorem gf_X4_237 : Fl2 (fun t k => FLs "BallotBus$Bus" 237 t k ∧ ∀ (G : Hp) (a : Nat), fval G a k (cTy t k) = rdI G a k) [(5, 8)] := ⟨⟨⟨rfl, Nat.le_of_ble_eq_true rfl, "BallotBus$Setup", (Or.inr ⟨_, List.mem_of_getElem? (i := 16) rfl⟩), (Or.inl rfl)⟩, fun _ _ => rfl⟩, trivial⟩
theorem gf_X4_174 : Fl2 (fun t k => FLs "BallotBus$Bus" 174 t k ∧ ∀ (G : Hp) (a : Nat), fval G a k (cTy t k) = rdI G a k) [(7, 4)] := ⟨⟨⟨rfl, Nat.le_of_ble_eq_true rfl, "BallotBus$Sheet", (Or.inr ⟨_, List.mem_of_getElem? (i := 36) rfl⟩), (Or.inl rfl)⟩, fun _ _ => rfl⟩, trivial⟩
theorem gf_X4_66 : Fl2 (fun t k => FLs "BallotBus$Bus" 66 t k ∧ ∀ (G : Hp) (a : Nat), fval G a k (cTy t k) = rdR G a k) [(6, 15)] := ⟨⟨⟨rfl, Nat.le_of_ble_eq_true rfl, "BallotBus$Bus", (Or.inl q1011), (Or.inl rfl)⟩, fun _ _ => rfl⟩, trivial⟩
theorem gf_X4_198 : Fl2 (fun t k => FLs "BallotBus$Bus" 198 t k ∧ ∀ (G : Hp) (a : Nat), fval G a k (cTy t k) = rdI G a k) [(11, 2)] := ⟨⟨⟨rfl, Nat.le_of_ble_eq_true rfl, "BallotBus$Request", (Or.inr ⟨_, List.mem_of_getElem? (i := 73) rfl⟩), (Or.inl rfl)⟩, fun _ _ => rfl⟩, trivial⟩
theorem gf_X4_230 : Fl2 (fun t k => FLs "BallotBus$Bus" 230 t k ∧ ∀ (G : Hp) (a : Nat), fval G a k (cTy t k) = rdI G a k) [(11, 4)] := ⟨⟨⟨rfl, Nat.le_of_ble_eq_true rfl, "BallotBus$Request", (Or.inr ⟨_, List.mem_of_getElem? (i := 77) rfl⟩), (Or.inl rfl)⟩, fun _ _ => rfl⟩, trivial⟩
theorem gf_X4_252 : Fl2 (fun t k => FLs "BallotBus$Bus" 252 t k ∧ ∀ (G : Hp) (a : Nat), fval G a k (cTy t k) = rdI G a k) [(5, 10)] := ⟨⟨⟨rfl, Nat.le_of_ble_eq_true rfl, "BallotBus$Setup", (Or.inr ⟨_, List.mem_of_getElem? (i := 22) rfl⟩), (Or.inl rfl)⟩, fun _ _ => rfl⟩, trivial⟩
theorem gf_X4_258 : Fl2 (fun t k => FLs "BallotBus$Bus" 258 t k ∧ ∀ (G : Hp) (a : Nat), fval G a k (cTy t k) = rdI G a k) [(5, 11)] := ⟨⟨⟨rfl, Nat.le_of_ble_eq_true rfl, "BallotBus$Setup", (Or.inr ⟨_, List.mem_of_getElem? (i := 25) rfl⟩), (Or.inl rfl)⟩, fun _ _ => rfl⟩, trivial⟩
theorem pf_X5_9i : Fl2 (fun t k => FLs "BallotBus$Sheet" 9 t k ∧ FPs "BallotBus$Sheet" "<init>" 9 t k ∧ isR (cTy t k)) [(7, 0)] := ⟨⟨⟨rfl, Nat.le_of_ble_eq_true rfl, "BallotBus$Sheet", (Or.inl q888), (Or.inl rfl)⟩, ⟨tg7, Nat.le_of_ble_eq_true rfl, Or.inr ⟨rfl, rfl, q888⟩⟩, isR_A⟩, trivial⟩
theorem pf_X5_15i : Fl2 (fun t k => FLs "BallotBus$Sheet" 15 t k ∧ FPs "BallotBus$Sheet" "<init>" 15 t k ∧ isR (cTy t k)) [(7, 1)] := ⟨⟨⟨rfl, Nat.le_of_ble_eq_true rfl, "BallotBus$Sheet", (Or.inl q891), (Or.inl rfl)⟩, ⟨tg7, Nat.le_of_ble_eq_true rfl, Or.inr ⟨rfl, rfl, q891⟩⟩, isR_A⟩, trivial⟩
theorem pf_X5_18i : Fl2 (fun t k => FLs "BallotBus$Sheet" 18 t k ∧ FPs "BallotBus$Sheet" "<init>" 18 t k ∧ isR (cTy t k)) [(7, 2)] := ⟨⟨⟨rfl, Nat.le_of_ble_eq_true rfl, "BallotBus$Sheet", (Or.inl q894), (Or.inl rfl)⟩, ⟨tg7, Nat.le_of_ble_eq_true rfl, Or.inr ⟨rfl, rfl, q894⟩⟩, isR_A⟩, trivial⟩
theorem pf_X5_21i : Fl2 (fun t k => FLs "BallotBus$Sheet" 21 t k ∧ FPs "BallotBus$Sheet" "<init>" 21 t k ∧ isI (cTy t k) okI) [(7, 3)] := ⟨⟨⟨rfl, Nat.le_of_ble_eq_true rfl, "BallotBus$Sheet", (Or.inl q895), (Or.inl rfl)⟩, ⟨tg7, Nat.le_of_ble_eq_true rfl, Or.inr ⟨rfl, rfl, q895⟩⟩, isI_I⟩, trivial⟩
theorem pf_X5_25 {nm : String} : Fl2 (fun t k => FLs "BallotBus$Sheet" 25 t k ∧ FPs "BallotBus$Sheet" nm 25 t k ∧ isI (cTy t k) okI) [(7, 4)] := ⟨⟨⟨rfl, Nat.le_of_ble_eq_true rfl, "BallotBus$Sheet", (Or.inl q899), (Or.inl rfl)⟩, ⟨tg7, Nat.le_of_ble_eq_true rfl, Or.inl rfl⟩, isI_I⟩, trivial⟩
theorem gf_X5_9 : Fl2 (fun t k => FLs "BallotBus$Sheet" 9 t k ∧ ∀ (G : Hp) (a : Nat), fval G a k (cTy t k) = rdR G a k) [(7, 0)] := ⟨⟨⟨rfl, Nat.le_of_ble_eq_true rfl, "BallotBus$Sheet", (Or.inl q888), (Or.inl rfl)⟩, fun _ _ => rfl⟩, trivial⟩
theorem gf_X5_15 : Fl2 (fun t k => FLs "BallotBus$Sheet" 15 t k ∧ ∀ (G : Hp) (a : Nat), fval G a k (cTy t k) = rdR G a k) [(7, 1)] := ⟨⟨⟨rfl, Nat.le_of_ble_eq_true rfl, "BallotBus$Sheet", (Or.inl q891), (Or.inl rfl)⟩, fun _ _ => rfl⟩, trivial⟩
theorem gf_X5_18 : Fl2 (fun t k => FLs "BallotBus$Sheet" 18 t k ∧ ∀ (G : Hp) (a : Nat), fval G a k (cTy t k) = rdR G a k) [(7, 2)] := ⟨⟨⟨rfl, Nat.le_of_ble_eq_true rfl, "BallotBus$Sheet", (Or.inl q894), (Or.inl rfl)⟩, fun _ _ => rfl⟩, trivial⟩
theorem gf_X5_25 : Fl2 (fun t k => FLs "BallotBus$Sheet" 25 t k ∧ ∀ (G : Hp) (a : Nat), fval G a k (cTy t k) = rdI G a k) [(7, 4)] := ⟨⟨⟨rfl, Nat.le_of_ble_eq_true rfl, "BallotBus$Sheet", (Or.inl q899), (Or.inl rfl)⟩, fun _ _ => rfl⟩, trivial⟩
theorem gf_X5_21 : Fl2 (fun t k => FLs "BallotBus$Sheet" 21 t k ∧ ∀ (G : Hp) (a : Nat), fval G a k (cTy t k) = rdI G a k) [(7, 3)] := ⟨⟨⟨rfl, Nat.le_of_ble_eq_true rfl, "BallotBus$Sheet", (Or.inl q895), (Or.inl rfl)⟩, fun _ _ => rfl⟩, trivial⟩
theorem pf_X6_7i : Fl2 (fun t k => FLs "BallotBusModel" 7 t k ∧ FPs "BallotBusModel" "<init>" 7 t k ∧ isR (cTy t k)) [(8, 8)] := ⟨⟨⟨rfl, Nat.le_of_ble_eq_true rfl, "BallotBusModel", (Or.inl q2857), (Or.inl rfl)⟩, ⟨tg8, Nat.le_of_ble_eq_true rfl, Or.inr ⟨rfl, rfl, q2857⟩⟩, isR_A⟩, trivial⟩
theorem pf_X6_13i : Fl2 (fun t k => FLs "BallotBusModel" 13 t k ∧ FPs "BallotBusModel" "<init>" 13 t k ∧ isR (cTy t k)) [(8, 9)] := ⟨⟨⟨rfl, Nat.le_of_ble_eq_true rfl, "BallotBusModel", (Or.inl q2858), (Or.inl rfl)⟩, ⟨tg8, Nat.le_of_ble_eq_true rfl, Or.inr ⟨rfl, rfl, q2858⟩⟩, isR_A⟩, trivial⟩
theorem pf_X6_17i : Fl2 (fun t k => FLs "BallotBusModel" 17 t k ∧ FPs "BallotBusModel" "<init>" 17 t k ∧ isR (cTy t k)) [(8, 10)] := ⟨⟨⟨rfl, Nat.le_of_ble_eq_true rfl, "BallotBusModel", (Or.inl q2859), (Or.inl rfl)⟩, ⟨tg8, Nat.le_of_ble_eq_true rfl, Or.inr ⟨rfl, rfl, q2859⟩⟩, isR_A⟩, trivial⟩
theorem pf_X6_20i : Fl2 (fun t k => FLs "BallotBusModel" 20 t k ∧ FPs "BallotBusModel" "<init>" 20 t k ∧ isR (cTy t k)) [(8, 11)] := ⟨⟨⟨rfl, Nat.le_of_ble_eq_true rfl, "BallotBusModel", (Or.inl q2860), (Or.inl rfl)⟩, ⟨tg8, Nat.le_of_ble_eq_true rfl, Or.inr ⟨rfl, rfl, q2860⟩⟩, isR_A⟩, trivial⟩
theorem pf_X6_23i : Fl2 (fun t k => FLs "BallotBusModel" 23 t k ∧ FPs "BallotBusModel" "<init>" 23 t k ∧ isR (cTy t k)) [(8, 12)] := ⟨⟨⟨rfl, Nat.le_of_ble_eq_true rfl, "BallotBusModel", (Or.inl q2861), (Or.inl rfl)⟩, ⟨tg8, Nat.le_of_ble_eq_true rfl, Or.inr ⟨rfl, rfl, q2861⟩⟩, isR_A⟩, trivial⟩
theorem pf_X6_26i : Fl2 (fun t k => FLs "BallotBusModel" 26 t k ∧ FPs "BallotBusModel" "<init>" 26 t k ∧ isR (cTy t k)) [(8, 13)] := ⟨⟨⟨rfl, Nat.le_of_ble_eq_true rfl, "BallotBusModel", (Or.inl q2862), (Or.inl rfl)⟩, ⟨tg8, Nat.le_of_ble_eq_true rfl, Or.inr ⟨rfl, rfl, q2862⟩⟩, isR_A⟩, trivial⟩
theorem pf_X6_29i : Fl2 (fun t k => FLs "BallotBusModel" 29 t k ∧ FPs "BallotBusModel" "<init>" 29 t k ∧ isR (cTy t k)) [(8, 14)] := ⟨⟨⟨rfl, Nat.le_of_ble_eq_true rfl, "BallotBusModel", (Or.inl q2863), (Or.inl rfl)⟩, ⟨tg8, Nat.le_of_ble_eq_true rfl, Or.inr ⟨rfl, rfl, q2863⟩⟩, isR_A⟩, trivial⟩
theorem pf_X6_32i : Fl2 (fun t k => FLs "BallotBusModel" 32 t k ∧ FPs "BallotBusModel" "<init>" 32 t k ∧ isR (cTy t k)) [(8, 15)] := ⟨⟨⟨rfl, Nat.le_of_ble_eq_true rfl, "BallotBusModel", (Or.inl q2864), (Or.inl rfl)⟩, ⟨tg8, Nat.le_of_ble_eq_true rfl, Or.inr ⟨rfl, rfl, q2864⟩⟩, isR_A⟩, trivial⟩
theorem pf_X6_35i : Fl2 (fun t k => FLs "BallotBusModel" 35 t k ∧ FPs "BallotBusModel" "<init>" 35 t k ∧ isR (cTy t k)) [(8, 16)] := ⟨⟨⟨rfl, Nat.le_of_ble_eq_true rfl, "BallotBusModel", (Or.inl q2865), (Or.inl rfl)⟩, ⟨tg8, Nat.le_of_ble_eq_true rfl, Or.inr ⟨rfl, rfl, q2865⟩⟩, isR_A⟩, trivial⟩
theorem pf_X6_38i {nm : String} : Fl2 (fun t k => FLs "BallotBusModel" 38 t k ∧ FPs "BallotBusModel" nm 38 t k ∧ isI (cTy t k) okI) [(8, 19)] := ⟨⟨⟨rfl, Nat.le_of_ble_eq_true rfl, "BallotBusModel", (Or.inl q2868), (Or.inl rfl)⟩, ⟨tg8, Nat.le_of_ble_eq_true rfl, Or.inl rfl⟩, isI_I⟩, trivial⟩
theorem pf_X6_42i : Fl2 (fun t k => FLs "BallotBusModel" 42 t k ∧ FPs "BallotBusModel" "<init>" 42 t k ∧ isR (cTy t k)) [(8, 20)] := ⟨⟨⟨rfl, Nat.le_of_ble_eq_true rfl, "BallotBusModel", (Or.inl q2869), (Or.inl rfl)⟩, ⟨tg8, Nat.le_of_ble_eq_true rfl, Or.inr ⟨rfl, rfl, q2869⟩⟩, isR_A⟩, trivial⟩
theorem pf_X6_45i : Fl2 (fun t k => FLs "BallotBusModel" 45 t k ∧ FPs "BallotBusModel" "<init>" 45 t k ∧ isR (cTy t k)) [(8, 21)] := ⟨⟨⟨rfl, Nat.le_of_ble_eq_true rfl, "BallotBusModel", (Or.inl q2870), (Or.inl rfl)⟩, ⟨tg8, Nat.le_of_ble_eq_true rfl, Or.inr ⟨rfl, rfl, q2870⟩⟩, isR_A⟩, trivial⟩
theorem pf_X6_48i : Fl2 (fun t k => FLs "BallotBusModel" 48 t k ∧ FPs "BallotBusModel" "<init>" 48 t k ∧ isR (cTy t k)) [(8, 22)] := ⟨⟨⟨rfl, Nat.le_of_ble_eq_true rfl, "BallotBusModel", (Or.inl q2871), (Or.inl rfl)⟩, ⟨tg8, Nat.le_of_ble_eq_true rfl, Or.inr ⟨rfl, rfl, q2871⟩⟩, isR_A⟩, trivial⟩
theorem pf_X6_52i {nm : String} : Fl2 (fun t k => FLs "BallotBusModel" 52 t k ∧ FPs "BallotBusModel" nm 52 t k ∧ isI (cTy t k) okI) [(8, 32)] := ⟨⟨⟨rfl, Nat.le_of_ble_eq_true rfl, "BallotBusModel", (Or.inl q2881), (Or.inl rfl)⟩, ⟨tg8, Nat.le_of_ble_eq_true rfl, Or.inl rfl⟩, isI_I⟩, trivial⟩
theorem pf_X6_55i : Fl2 (fun t k => FLs "BallotBusModel" 55 t k ∧ FPs "BallotBusModel" "<init>" 55 t k ∧ isR (cTy t k)) [(8, 36)] := ⟨⟨⟨rfl, Nat.le_of_ble_eq_true rfl, "BallotBusModel", (Or.inl q2885), (Or.inl rfl)⟩, ⟨tg8, Nat.le_of_ble_eq_true rfl, Or.inr ⟨rfl, rfl, q2885⟩⟩, isR_A⟩, trivial⟩
theorem pf_X6_58i : Fl2 (fun t k => FLs "BallotBusModel" 58 t k ∧ FPs "BallotBusModel" "<init>" 58 t k ∧ isR (cTy t k)) [(8, 37)] := ⟨⟨⟨rfl, Nat.le_of_ble_eq_true rfl, "BallotBusModel", (Or.inl q2886), (Or.inl rfl)⟩, ⟨tg8, Nat.le_of_ble_eq_true rfl, Or.inr ⟨rfl, rfl, q2886⟩⟩, isR_A⟩, trivial⟩
theorem pf_X6_61i : Fl2 (fun t k => FLs "BallotBusModel" 61 t k ∧ FPs "BallotBusModel" "<init>" 61 t k ∧ isR (cTy t k)) [(8, 38)] := ⟨⟨⟨rfl, Nat.le_of_ble_eq_true rfl, "BallotBusModel", (Or.inl q2887), (Or.inl rfl)⟩, ⟨tg8, Nat.le_of_ble_eq_true rfl, Or.inr ⟨rfl, rfl, q2887⟩⟩, isR_A⟩, trivial⟩
theorem pf_X6_64i : Fl2 (fun t k => FLs "BallotBusModel" 64 t k ∧ FPs "BallotBusModel" "<init>" 64 t k ∧ isR (cTy t k)) [(8, 39)] := ⟨⟨⟨rfl, Nat.le_of_ble_eq_true rfl, "BallotBusModel", (Or.inl q2888), (Or.inl rfl)⟩, ⟨tg8, Nat.le_of_ble_eq_true rfl, Or.inr ⟨rfl, rfl, q2888⟩⟩, isR_A⟩, trivial⟩
theorem pf_X6_67i : Fl2 (fun t k => FLs "BallotBusModel" 67 t k ∧ FPs "BallotBusModel" "<init>" 67 t k ∧ isR (cTy t k)) [(8, 40)] := ⟨⟨⟨rfl, Nat.le_of_ble_eq_true rfl, "BallotBusModel", (Or.inl q2889), (Or.inl rfl)⟩, ⟨tg8, Nat.le_of_ble_eq_true rfl, Or.inr ⟨rfl, rfl, q2889⟩⟩, isR_A⟩, trivial⟩
theorem gf_X6_61 : Fl2 (fun t k => FLs "BallotBusModel" 61 t k ∧ ∀ (G : Hp) (a : Nat), fval G a k (cTy t k) = rdR G a k) [(8, 38)] := ⟨⟨⟨rfl, Nat.le_of_ble_eq_true rfl, "BallotBusModel", (Or.inl q2887), (Or.inl rfl)⟩, fun _ _ => rfl⟩, trivial⟩
theorem gf_X6_64 : Fl2 (fun t k => FLs "BallotBusModel" 64 t k ∧ ∀ (G : Hp) (a : Nat), fval G a k (cTy t k) = rdR G a k) [(8, 39)] := ⟨⟨⟨rfl, Nat.le_of_ble_eq_true rfl, "BallotBusModel", (Or.inl q2888), (Or.inl rfl)⟩, fun _ _ => rfl⟩, trivial⟩
theorem gf_X6_58 : Fl2 (fun t k => FLs "BallotBusModel" 58 t k ∧ ∀ (G : Hp) (a : Nat), fval G a k (cTy t k) = rdR G a k) [(8, 37)] := ⟨⟨⟨rfl, Nat.le_of_ble_eq_true rfl, "BallotBusModel", (Or.inl q2886), (Or.inl rfl)⟩, fun _ _ => rfl⟩, trivial⟩
theorem pf_X6_73i {nm : String} : Fl2 (fun t k => FLs "BallotBusModel" 73 t k ∧ FPs "BallotBusModel" nm 73 t k ∧ isI (cTy t k) okI) [(8, 33)] := ⟨⟨⟨rfl, Nat.le_of_ble_eq_true rfl, "BallotBusModel", (Or.inl q2882), (Or.inl rfl)⟩, ⟨tg8, Nat.le_of_ble_eq_true rfl, Or.inl rfl⟩, isI_I⟩, trivial⟩
theorem pf_X6_76i {nm : String} : Fl2 (fun t k => FLs "BallotBusModel" 76 t k ∧ FPs "BallotBusModel" nm 76 t k ∧ isI (cTy t k) okI) [(8, 34)] := ⟨⟨⟨rfl, Nat.le_of_ble_eq_true rfl, "BallotBusModel", (Or.inl q2883), (Or.inl rfl)⟩, ⟨tg8, Nat.le_of_ble_eq_true rfl, Or.inl rfl⟩, isI_I⟩, trivial⟩
theorem pf_X6_73 {nm : String} : Fl2 (fun t k => FLs "BallotBusModel" 73 t k ∧ FPs "BallotBusModel" nm 73 t k ∧ isI (cTy t k) okI) [(8, 33)] := ⟨⟨⟨rfl, Nat.le_of_ble_eq_true rfl, "BallotBusModel", (Or.inl q2882), (Or.inl rfl)⟩, ⟨tg8, Nat.le_of_ble_eq_true rfl, Or.inl rfl⟩, isI_I⟩, trivial⟩
theorem pf_X6_76 {nm : String} : Fl2 (fun t k => FLs "BallotBusModel" 76 t k ∧ FPs "BallotBusModel" nm 76 t k ∧ isI (cTy t k) okI) [(8, 34)] := ⟨⟨⟨rfl, Nat.le_of_ble_eq_true rfl, "BallotBusModel", (Or.inl q2883), (Or.inl rfl)⟩, ⟨tg8, Nat.le_of_ble_eq_true rfl, Or.inl rfl⟩, isI_I⟩, trivial⟩
theorem pf_X6_330 {nm : String} : Fl2 (fun t k => FLs "BallotBusModel" 330 t k ∧ FPs "BallotBusModel" nm 330 t k ∧ isI (cTy t k) okI) [(8, 35)] := ⟨⟨⟨rfl, Nat.le_of_ble_eq_true rfl, "BallotBusModel", (Or.inl q2884), (Or.inl rfl)⟩, ⟨tg8, Nat.le_of_ble_eq_true rfl, Or.inl rfl⟩, isI_I⟩, trivial⟩
theorem gf_X6_55 : Fl2 (fun t k => FLs "BallotBusModel" 55 t k ∧ ∀ (G : Hp) (a : Nat), fval G a k (cTy t k) = rdR G a k) [(8, 36)] := ⟨⟨⟨rfl, Nat.le_of_ble_eq_true rfl, "BallotBusModel", (Or.inl q2885), (Or.inl rfl)⟩, fun _ _ => rfl⟩, trivial⟩
theorem gf_X6_23 : Fl2 (fun t k => FLs "BallotBusModel" 23 t k ∧ ∀ (G : Hp) (a : Nat), fval G a k (cTy t k) = rdR G a k) [(8, 12)] := ⟨⟨⟨rfl, Nat.le_of_ble_eq_true rfl, "BallotBusModel", (Or.inl q2861), (Or.inl rfl)⟩, fun _ _ => rfl⟩, trivial⟩
theorem gf_X6_73 : Fl2 (fun t k => FLs "BallotBusModel" 73 t k ∧ ∀ (G : Hp) (a : Nat), fval G a k (cTy t k) = rdI G a k) [(8, 33)] := ⟨⟨⟨rfl, Nat.le_of_ble_eq_true rfl, "BallotBusModel", (Or.inl q2882), (Or.inl rfl)⟩, fun _ _ => rfl⟩, trivial⟩
theorem pf_X6_134 {nm : String} : Fl2 (fun t k => FLs "BallotBusModel" 134 t k ∧ FPs "BallotBusModel" nm 134 t k ∧ isI (cTy t k) okI) [(8, 1)] := ⟨⟨⟨rfl, Nat.le_of_ble_eq_true rfl, "BallotBusModel", (Or.inl q2850), (Or.inl rfl)⟩, ⟨tg8, Nat.le_of_ble_eq_true rfl, Or.inl rfl⟩, isI_I⟩, trivial⟩
theorem gf_X6_76 : Fl2 (fun t k => FLs "BallotBusModel" 76 t k ∧ ∀ (G : Hp) (a : Nat), fval G a k (cTy t k) = rdI G a k) [(8, 34)] := ⟨⟨⟨rfl, Nat.le_of_ble_eq_true rfl, "BallotBusModel", (Or.inl q2883), (Or.inl rfl)⟩, fun _ _ => rfl⟩, trivial⟩
theorem pf_X6_125 {nm : String} : Fl2 (fun t k => FLs "BallotBusModel" 125 t k ∧ FPs "BallotBusModel" nm 125 t k ∧ isI (cTy t k) okI) [(8, 2)] := ⟨⟨⟨rfl, Nat.le_of_ble_eq_true rfl, "BallotBusModel", (Or.inl q2851), (Or.inl rfl)⟩, ⟨tg8, Nat.le_of_ble_eq_true rfl, Or.inl rfl⟩, isI_I⟩, trivial⟩
theorem pf_X6_191 {nm : String} : Fl2 (fun t k => FLs "BallotBusModel" 191 t k ∧ FPs "BallotBusModel" nm 191 t k ∧ isI (cTy t k) okI) [(8, 3)] := ⟨⟨⟨rfl, Nat.le_of_ble_eq_true rfl, "BallotBusModel", (Or.inl q2852), (Or.inl rfl)⟩, ⟨tg8, Nat.le_of_ble_eq_true rfl, Or.inl rfl⟩, isI_I⟩, trivial⟩
theorem pf_X6_185 {nm : String} : Fl2 (fun t k => FLs "BallotBusModel" 185 t k ∧ FPs "BallotBusModel" nm 185 t k ∧ isI (cTy t k) okI) [(8, 4)] := ⟨⟨⟨rfl, Nat.le_of_ble_eq_true rfl, "BallotBusModel", (Or.inl q2853), (Or.inl rfl)⟩, ⟨tg8, Nat.le_of_ble_eq_true rfl, Or.inl rfl⟩, isI_I⟩, trivial⟩
theorem pf_X6_250 {nm : String} : Fl2 (fun t k => FLs "BallotBusModel" 250 t k ∧ FPs "BallotBusModel" nm 250 t k ∧ isI (cTy t k) okI) [(8, 5)] := ⟨⟨⟨rfl, Nat.le_of_ble_eq_true rfl, "BallotBusModel", (Or.inl q2854), (Or.inl rfl)⟩, ⟨tg8, Nat.le_of_ble_eq_true rfl, Or.inl rfl⟩, isI_I⟩, trivial⟩
theorem pf_X6_259 {nm : String} : Fl2 (fun t k => FLs "BallotBusModel" 259 t k ∧ FPs "BallotBusModel" nm 259 t k ∧ isI (cTy t k) okI) [(8, 6)] := ⟨⟨⟨rfl, Nat.le_of_ble_eq_true rfl, "BallotBusModel", (Or.inl q2855), (Or.inl rfl)⟩, ⟨tg8, Nat.le_of_ble_eq_true rfl, Or.inl rfl⟩, isI_I⟩, trivial⟩
theorem pf_X6_122 {nm : String} : Fl2 (fun t k => FLs "BallotBusModel" 122 t k ∧ FPs "BallotBusModel" nm 122 t k ∧ isI (cTy t k) okI) [(8, 7)] := ⟨⟨⟨rfl, Nat.le_of_ble_eq_true rfl, "BallotBusModel", (Or.inl q2856), (Or.inl rfl)⟩, ⟨tg8, Nat.le_of_ble_eq_true rfl, Or.inl rfl⟩, isI_I⟩, trivial⟩
theorem gf_X6_134 : Fl2 (fun t k => FLs "BallotBusModel" 134 t k ∧ ∀ (G : Hp) (a : Nat), fval G a k (cTy t k) = rdI G a k) [(8, 1)] := ⟨⟨⟨rfl, Nat.le_of_ble_eq_true rfl, "BallotBusModel", (Or.inl q2850), (Or.inl rfl)⟩, fun _ _ => rfl⟩, trivial⟩
theorem gf_X6_13 : Fl2 (fun t k => FLs "BallotBusModel" 13 t k ∧ ∀ (G : Hp) (a : Nat), fval G a k (cTy t k) = rdR G a k) [(8, 9)] := ⟨⟨⟨rfl, Nat.le_of_ble_eq_true rfl, "BallotBusModel", (Or.inl q2858), (Or.inl rfl)⟩, fun _ _ => rfl⟩, trivial⟩
theorem gf_X6_125 : Fl2 (fun t k => FLs "BallotBusModel" 125 t k ∧ ∀ (G : Hp) (a : Nat), fval G a k (cTy t k) = rdI G a k) [(8, 2)] := ⟨⟨⟨rfl, Nat.le_of_ble_eq_true rfl, "BallotBusModel", (Or.inl q2851), (Or.inl rfl)⟩, fun _ _ => rfl⟩, trivial⟩
theorem gf_X6_17 : Fl2 (fun t k => FLs "BallotBusModel" 17 t k ∧ ∀ (G : Hp) (a : Nat), fval G a k (cTy t k) = rdR G a k) [(8, 10)] := ⟨⟨⟨rfl, Nat.le_of_ble_eq_true rfl, "BallotBusModel", (Or.inl q2859), (Or.inl rfl)⟩, fun _ _ => rfl⟩, trivial⟩
theorem gf_X6_7 : Fl2 (fun t k => FLs "BallotBusModel" 7 t k ∧ ∀ (G : Hp) (a : Nat), fval G a k (cTy t k) = rdR G a k) [(8, 8)] := ⟨⟨⟨rfl, Nat.le_of_ble_eq_true rfl, "BallotBusModel", (Or.inl q2857), (Or.inl rfl)⟩, fun _ _ => rfl⟩, trivial⟩
theorem gf_X6_20 : Fl2 (fun t k => FLs "BallotBusModel" 20 t k ∧ ∀ (G : Hp) (a : Nat), fval G a k (cTy t k) = rdR G a k) [(8, 11)] := ⟨⟨⟨rfl, Nat.le_of_ble_eq_true rfl, "BallotBusModel", (Or.inl q2860), (Or.inl rfl)⟩, fun _ _ => rfl⟩, trivial⟩
theorem pf_X6_89 {nm : String} : Fl2 (fun t k => FLs "BallotBusModel" 89 t k ∧ FPs "BallotBusModel" nm 89 t k ∧ isI (cTy t k) okI) [(8, 17)] := ⟨⟨⟨rfl, Nat.le_of_ble_eq_true rfl, "BallotBusModel", (Or.inl q2866), (Or.inl rfl)⟩, ⟨tg8, Nat.le_of_ble_eq_true rfl, Or.inl rfl⟩, isI_I⟩, trivial⟩
theorem pf_X6_96 {nm : String} : Fl2 (fun t k => FLs "BallotBusModel" 96 t k ∧ FPs "BallotBusModel" nm 96 t k ∧ isI (cTy t k) okZ) [(8, 18)] := ⟨⟨⟨rfl, Nat.le_of_ble_eq_true rfl, "BallotBusModel", (Or.inl q2867), (Or.inl rfl)⟩, ⟨tg8, Nat.le_of_ble_eq_true rfl, Or.inl rfl⟩, isI_Z⟩, trivial⟩
theorem gf_X6_82 : Fl2 (fun t k => FLs "BallotBusModel" 82 t k ∧ ∀ (G : Hp) (a : Nat), fval G a k (cTy t k) = rdI G a k) [(8, 0)] := ⟨⟨⟨rfl, Nat.le_of_ble_eq_true rfl, "BallotBusModel", (Or.inl q2849), (Or.inl rfl)⟩, fun _ _ => rfl⟩, trivial⟩
theorem gf_X6_89 : Fl2 (fun t k => FLs "BallotBusModel" 89 t k ∧ ∀ (G : Hp) (a : Nat), fval G a k (cTy t k) = rdI G a k) [(8, 17)] := ⟨⟨⟨rfl, Nat.le_of_ble_eq_true rfl, "BallotBusModel", (Or.inl q2866), (Or.inl rfl)⟩, fun _ _ => rfl⟩, trivial⟩
theorem gf_X6_35 : Fl2 (fun t k => FLs "BallotBusModel" 35 t k ∧ ∀ (G : Hp) (a : Nat), fval G a k (cTy t k) = rdR G a k) [(8, 16)] := ⟨⟨⟨rfl, Nat.le_of_ble_eq_true rfl, "BallotBusModel", (Or.inl q2865), (Or.inl rfl)⟩, fun _ _ => rfl⟩, trivial⟩
theorem pf_X6_82 {nm : String} : Fl2 (fun t k => FLs "BallotBusModel" 82 t k ∧ FPs "BallotBusModel" nm 82 t k ∧ isI (cTy t k) okI) [(8, 0)] := ⟨⟨⟨rfl, Nat.le_of_ble_eq_true rfl, "BallotBusModel", (Or.inl q2849), (Or.inl rfl)⟩, ⟨tg8, Nat.le_of_ble_eq_true rfl, Or.inl rfl⟩, isI_I⟩, trivial⟩
theorem gf_X6_32 : Fl2 (fun t k => FLs "BallotBusModel" 32 t k ∧ ∀ (G : Hp) (a : Nat), fval G a k (cTy t k) = rdR G a k) [(8, 15)] := ⟨⟨⟨rfl, Nat.le_of_ble_eq_true rfl, "BallotBusModel", (Or.inl q2864), (Or.inl rfl)⟩, fun _ _ => rfl⟩, trivial⟩
theorem gf_X6_96 : Fl2 (fun t k => FLs "BallotBusModel" 96 t k ∧ ∀ (G : Hp) (a : Nat), fval G a k (cTy t k) = rdI G a k) [(8, 18)] := ⟨⟨⟨rfl, Nat.le_of_ble_eq_true rfl, "BallotBusModel", (Or.inl q2867), (Or.inl rfl)⟩, fun _ _ => rfl⟩, trivial⟩
theorem gf_X6_26 : Fl2 (fun t k => FLs "BallotBusModel" 26 t k ∧ ∀ (G : Hp) (a : Nat), fval G a k (cTy t k) = rdR G a k) [(8, 13)] := ⟨⟨⟨rfl, Nat.le_of_ble_eq_true rfl, "BallotBusModel", (Or.inl q2862), (Or.inl rfl)⟩, fun _ _ => rfl⟩, trivial⟩
theorem gf_X6_185 : Fl2 (fun t k => FLs "BallotBusModel" 185 t k ∧ ∀ (G : Hp) (a : Nat), fval G a k (cTy t k) = rdI G a k) [(8, 4)] := ⟨⟨⟨rfl, Nat.le_of_ble_eq_true rfl, "BallotBusModel", (Or.inl q2853), (Or.inl rfl)⟩, fun _ _ => rfl⟩, trivial⟩
theorem gf_X6_191 : Fl2 (fun t k => FLs "BallotBusModel" 191 t k ∧ ∀ (G : Hp) (a : Nat), fval G a k (cTy t k) = rdI G a k) [(8, 3)] := ⟨⟨⟨rfl, Nat.le_of_ble_eq_true rfl, "BallotBusModel", (Or.inl q2852), (Or.inl rfl)⟩, fun _ _ => rfl⟩, trivial⟩
theorem gf_X6_42 : Fl2 (fun t k => FLs "BallotBusModel" 42 t k ∧ ∀ (G : Hp) (a : Nat), fval G a k (cTy t k) = rdR G a k) [(8, 20)] := ⟨⟨⟨rfl, Nat.le_of_ble_eq_true rfl, "BallotBusModel", (Or.inl q2869), (Or.inl rfl)⟩, fun _ _ => rfl⟩, trivial⟩
theorem gf_X6_38 : Fl2 (fun t k => FLs "BallotBusModel" 38 t k ∧ ∀ (G : Hp) (a : Nat), fval G a k (cTy t k) = rdI G a k) [(8, 19)] := ⟨⟨⟨rfl, Nat.le_of_ble_eq_true rfl, "BallotBusModel", (Or.inl q2868), (Or.inl rfl)⟩, fun _ _ => rfl⟩, trivial⟩
theorem gf_X6_122 : Fl2 (fun t k => FLs "BallotBusModel" 122 t k ∧ ∀ (G : Hp) (a : Nat), fval G a k (cTy t k) = rdI G a k) [(8, 7)] := ⟨⟨⟨rfl, Nat.le_of_ble_eq_true rfl, "BallotBusModel", (Or.inl q2856), (Or.inl rfl)⟩, fun _ _ => rfl⟩, trivial⟩
theorem gf_X6_259 : Fl2 (fun t k => FLs "BallotBusModel" 259 t k ∧ ∀ (G : Hp) (a : Nat), fval G a k (cTy t k) = rdI G a k) [(8, 6)] := ⟨⟨⟨rfl, Nat.le_of_ble_eq_true rfl, "BallotBusModel", (Or.inl q2855), (Or.inl rfl)⟩, fun _ _ => rfl⟩, trivial⟩
theorem gf_X6_250 : Fl2 (fun t k => FLs "BallotBusModel" 250 t k ∧ ∀ (G : Hp) (a : Nat), fval G a k (cTy t k) = rdI G a k) [(8, 5)] := ⟨⟨⟨rfl, Nat.le_of_ble_eq_true rfl, "BallotBusModel", (Or.inl q2854), (Or.inl rfl)⟩, fun _ _ => rfl⟩, trivial⟩
theorem gf_X6_45 : Fl2 (fun t k => FLs "BallotBusModel" 45 t k ∧ ∀ (G : Hp) (a : Nat), fval G a k (cTy t k) = rdR G a k) [(8, 21)] := ⟨⟨⟨rfl, Nat.le_of_ble_eq_true rfl, "BallotBusModel", (Or.inl q2870), (Or.inl rfl)⟩, fun _ _ => rfl⟩, trivial⟩
theorem pf_X6_38 {nm : String} : Fl2 (fun t k => FLs "BallotBusModel" 38 t k ∧ FPs "BallotBusModel" nm 38 t k ∧ isI (cTy t k) okI) [(8, 19)] := ⟨⟨⟨rfl, Nat.le_of_ble_eq_true rfl, "BallotBusModel", (Or.inl q2868), (Or.inl rfl)⟩, ⟨tg8, Nat.le_of_ble_eq_true rfl, Or.inl rfl⟩, isI_I⟩, trivial⟩
theorem gf_X6_29 : Fl2 (fun t k => FLs "BallotBusModel" 29 t k ∧ ∀ (G : Hp) (a : Nat), fval G a k (cTy t k) = rdR G a k) [(8, 14)] := ⟨⟨⟨rfl, Nat.le_of_ble_eq_true rfl, "BallotBusModel", (Or.inl q2863), (Or.inl rfl)⟩, fun _ _ => rfl⟩, trivial⟩
theorem gf_X6_333 : Fl2 (fun t k => FLs "BallotBusModel" 333 t k ∧ ∀ (G : Hp) (a : Nat), fval G a k (cTy t k) = rdI G a k) [(8, 23)] := ⟨⟨⟨rfl, Nat.le_of_ble_eq_true rfl, "BallotBusModel", (Or.inl q2872), (Or.inl rfl)⟩, fun _ _ => rfl⟩, trivial⟩
theorem gf_X6_48 : Fl2 (fun t k => FLs "BallotBusModel" 48 t k ∧ ∀ (G : Hp) (a : Nat), fval G a k (cTy t k) = rdR G a k) [(8, 22)] := ⟨⟨⟨rfl, Nat.le_of_ble_eq_true rfl, "BallotBusModel", (Or.inl q2871), (Or.inl rfl)⟩, fun _ _ => rfl⟩, trivial⟩
theorem pf_X6_333 {nm : String} : Fl2 (fun t k => FLs "BallotBusModel" 333 t k ∧ FPs "BallotBusModel" nm 333 t k ∧ isI (cTy t k) okI) [(8, 23)] := ⟨⟨⟨rfl, Nat.le_of_ble_eq_true rfl, "BallotBusModel", (Or.inl q2872), (Or.inl rfl)⟩, ⟨tg8, Nat.le_of_ble_eq_true rfl, Or.inl rfl⟩, isI_I⟩, trivial⟩
theorem pf_X6_389 {nm : String} : Fl2 (fun t k => FLs "BallotBusModel" 389 t k ∧ FPs "BallotBusModel" nm 389 t k ∧ isI (cTy t k) okI) [(8, 31)] := ⟨⟨⟨rfl, Nat.le_of_ble_eq_true rfl, "BallotBusModel", (Or.inl q2880), (Or.inl rfl)⟩, ⟨tg8, Nat.le_of_ble_eq_true rfl, Or.inl rfl⟩, isI_I⟩, trivial⟩
theorem pf_X6_52 {nm : String} : Fl2 (fun t k => FLs "BallotBusModel" 52 t k ∧ FPs "BallotBusModel" nm 52 t k ∧ isI (cTy t k) okI) [(8, 32)] := ⟨⟨⟨rfl, Nat.le_of_ble_eq_true rfl, "BallotBusModel", (Or.inl q2881), (Or.inl rfl)⟩, ⟨tg8, Nat.le_of_ble_eq_true rfl, Or.inl rfl⟩, isI_I⟩, trivial⟩
theorem pf_X6_336 {nm : String} : Fl2 (fun t k => FLs "BallotBusModel" 336 t k ∧ FPs "BallotBusModel" nm 336 t k ∧ isI (cTy t k) okI) [(8, 24)] := ⟨⟨⟨rfl, Nat.le_of_ble_eq_true rfl, "BallotBusModel", (Or.inl q2873), (Or.inl rfl)⟩, ⟨tg8, Nat.le_of_ble_eq_true rfl, Or.inl rfl⟩, isI_I⟩, trivial⟩
theorem pf_X6_346 {nm : String} : Fl2 (fun t k => FLs "BallotBusModel" 346 t k ∧ FPs "BallotBusModel" nm 346 t k ∧ isI (cTy t k) okI) [(8, 25)] := ⟨⟨⟨rfl, Nat.le_of_ble_eq_true rfl, "BallotBusModel", (Or.inl q2874), (Or.inl rfl)⟩, ⟨tg8, Nat.le_of_ble_eq_true rfl, Or.inl rfl⟩, isI_I⟩, trivial⟩
theorem gf_X6_352 : Fl2 (fun t k => FLs "BallotBusModel" 352 t k ∧ ∀ (G : Hp) (a : Nat), fval G a k (cTy t k) = rdI G a k) [(8, 27)] := ⟨⟨⟨rfl, Nat.le_of_ble_eq_true rfl, "BallotBusModel", (Or.inl q2876), (Or.inl rfl)⟩, fun _ _ => rfl⟩, trivial⟩
theorem gf_X6_346 : Fl2 (fun t k => FLs "BallotBusModel" 346 t k ∧ ∀ (G : Hp) (a : Nat), fval G a k (cTy t k) = rdI G a k) [(8, 25)] := ⟨⟨⟨rfl, Nat.le_of_ble_eq_true rfl, "BallotBusModel", (Or.inl q2874), (Or.inl rfl)⟩, fun _ _ => rfl⟩, trivial⟩
theorem pf_X6_349 {nm : String} : Fl2 (fun t k => FLs "BallotBusModel" 349 t k ∧ FPs "BallotBusModel" nm 349 t k ∧ isI (cTy t k) okI) [(8, 26)] := ⟨⟨⟨rfl, Nat.le_of_ble_eq_true rfl, "BallotBusModel", (Or.inl q2875), (Or.inl rfl)⟩, ⟨tg8, Nat.le_of_ble_eq_true rfl, Or.inl rfl⟩, isI_I⟩, trivial⟩
theorem pf_X6_352 {nm : String} : Fl2 (fun t k => FLs "BallotBusModel" 352 t k ∧ FPs "BallotBusModel" nm 352 t k ∧ isI (cTy t k) okI) [(8, 27)] := ⟨⟨⟨rfl, Nat.le_of_ble_eq_true rfl, "BallotBusModel", (Or.inl q2876), (Or.inl rfl)⟩, ⟨tg8, Nat.le_of_ble_eq_true rfl, Or.inl rfl⟩, isI_I⟩, trivial⟩
theorem pf_X6_358 {nm : String} : Fl2 (fun t k => FLs "BallotBusModel" 358 t k ∧ FPs "BallotBusModel" nm 358 t k ∧ cTy t k = .long) [(8, 30)] := ⟨⟨⟨rfl, Nat.le_of_ble_eq_true rfl, "BallotBusModel", (Or.inl q2879), (Or.inl rfl)⟩, ⟨tg8, Nat.le_of_ble_eq_true rfl, Or.inl rfl⟩, rfl⟩, trivial⟩
theorem gf_X6_349 : Fl2 (fun t k => FLs "BallotBusModel" 349 t k ∧ ∀ (G : Hp) (a : Nat), fval G a k (cTy t k) = rdI G a k) [(8, 26)] := ⟨⟨⟨rfl, Nat.le_of_ble_eq_true rfl, "BallotBusModel", (Or.inl q2875), (Or.inl rfl)⟩, fun _ _ => rfl⟩, trivial⟩
theorem gf_X6_358 : Fl2 (fun t k => FLs "BallotBusModel" 358 t k ∧ ∀ (G : Hp) (a : Nat), fval G a k (cTy t k) = rdJ G a k) [(8, 30)] := ⟨⟨⟨rfl, Nat.le_of_ble_eq_true rfl, "BallotBusModel", (Or.inl q2879), (Or.inl rfl)⟩, fun _ _ => rfl⟩, trivial⟩
theorem pf_X6_369 {nm : String} : Fl2 (fun t k => FLs "BallotBusModel" 369 t k ∧ FPs "BallotBusModel" nm 369 t k ∧ isI (cTy t k) okI) [(8, 28)] := ⟨⟨⟨rfl, Nat.le_of_ble_eq_true rfl, "BallotBusModel", (Or.inl q2877), (Or.inl rfl)⟩, ⟨tg8, Nat.le_of_ble_eq_true rfl, Or.inl rfl⟩, isI_I⟩, trivial⟩
theorem pf_X6_376 {nm : String} : Fl2 (fun t k => FLs "BallotBusModel" 376 t k ∧ FPs "BallotBusModel" nm 376 t k ∧ isI (cTy t k) okI) [(8, 29)] := ⟨⟨⟨rfl, Nat.le_of_ble_eq_true rfl, "BallotBusModel", (Or.inl q2878), (Or.inl rfl)⟩, ⟨tg8, Nat.le_of_ble_eq_true rfl, Or.inl rfl⟩, isI_I⟩, trivial⟩
theorem gf_X6_376 : Fl2 (fun t k => FLs "BallotBusModel" 376 t k ∧ ∀ (G : Hp) (a : Nat), fval G a k (cTy t k) = rdI G a k) [(8, 29)] := ⟨⟨⟨rfl, Nat.le_of_ble_eq_true rfl, "BallotBusModel", (Or.inl q2878), (Or.inl rfl)⟩, fun _ _ => rfl⟩, trivial⟩
theorem gf_X6_336 : Fl2 (fun t k => FLs "BallotBusModel" 336 t k ∧ ∀ (G : Hp) (a : Nat), fval G a k (cTy t k) = rdI G a k) [(8, 24)] := ⟨⟨⟨rfl, Nat.le_of_ble_eq_true rfl, "BallotBusModel", (Or.inl q2873), (Or.inl rfl)⟩, fun _ _ => rfl⟩, trivial⟩
theorem gf_X6_389 : Fl2 (fun t k => FLs "BallotBusModel" 389 t k ∧ ∀ (G : Hp) (a : Nat), fval G a k (cTy t k) = rdI G a k) [(8, 31)] := ⟨⟨⟨rfl, Nat.le_of_ble_eq_true rfl, "BallotBusModel", (Or.inl q2880), (Or.inl rfl)⟩, fun _ _ => rfl⟩, trivial⟩
theorem gf_X6_369 : Fl2 (fun t k => FLs "BallotBusModel" 369 t k ∧ ∀ (G : Hp) (a : Nat), fval G a k (cTy t k) = rdI G a k) [(8, 28)] := ⟨⟨⟨rfl, Nat.le_of_ble_eq_true rfl, "BallotBusModel", (Or.inl q2877), (Or.inl rfl)⟩, fun _ _ => rfl⟩, trivial⟩
theorem gf_X6_330 : Fl2 (fun t k => FLs "BallotBusModel" 330 t k ∧ ∀ (G : Hp) (a : Nat), fval G a k (cTy t k) = rdI G a k) [(8, 35)] := ⟨⟨⟨rfl, Nat.le_of_ble_eq_true rfl, "BallotBusModel", (Or.inl q2884), (Or.inl rfl)⟩, fun _ _ => rfl⟩, trivial⟩
theorem gf_X6_52 : Fl2 (fun t k => FLs "BallotBusModel" 52 t k ∧ ∀ (G : Hp) (a : Nat), fval G a k (cTy t k) = rdI G a k) [(8, 32)] := ⟨⟨⟨rfl, Nat.le_of_ble_eq_true rfl, "BallotBusModel", (Or.inl q2881), (Or.inl rfl)⟩, fun _ _ => rfl⟩, trivial⟩
theorem pf_X6_456 {nm : String} : Fl2 (fun t k => FLs "BallotBusModel" 456 t k ∧ FPs "BallotBusModel" nm 456 t k ∧ isI (cTy t k) okI) [(8, 41)] := ⟨⟨⟨rfl, Nat.le_of_ble_eq_true rfl, "BallotBusModel", (Or.inl q2890), (Or.inl rfl)⟩, ⟨tg8, Nat.le_of_ble_eq_true rfl, Or.inl rfl⟩, isI_I⟩, trivial⟩
theorem gf_X6_456 : Fl2 (fun t k => FLs "BallotBusModel" 456 t k ∧ ∀ (G : Hp) (a : Nat), fval G a k (cTy t k) = rdI G a k) [(8, 41)] := ⟨⟨⟨rfl, Nat.le_of_ble_eq_true rfl, "BallotBusModel", (Or.inl q2890), (Or.inl rfl)⟩, fun _ _ => rfl⟩, trivial⟩
theorem gf_X6_67 : Fl2 (fun t k => FLs "BallotBusModel" 67 t k ∧ ∀ (G : Hp) (a : Nat), fval G a k (cTy t k) = rdR G a k) [(8, 40)] := ⟨⟨⟨rfl, Nat.le_of_ble_eq_true rfl, "BallotBusModel", (Or.inl q2889), (Or.inl rfl)⟩, fun _ _ => rfl⟩, trivial⟩
theorem pf_X7_3i : Fl2 (fun t k => FLs "BallotBus$Parser" 3 t k ∧ FPs "BallotBus$Parser" "<init>" 3 t k ∧ isR (cTy t k)) [(9, 8)] := ⟨⟨⟨rfl, Nat.le_of_ble_eq_true rfl, "BallotBus$Parser", (Or.inl q1524), (Or.inl rfl)⟩, ⟨tg9, Nat.le_of_ble_eq_true rfl, Or.inr ⟨rfl, rfl, q1524⟩⟩, isR_O⟩, trivial⟩
theorem pf_X7_57i : Fl2 (fun t k => FLs "BallotBus$Parser" 57 t k ∧ FPs "BallotBus$Parser" "<init>" 57 t k ∧ isR (cTy t k)) [(9, 0)] := ⟨⟨⟨rfl, Nat.le_of_ble_eq_true rfl, "BallotBus$Parser", (Or.inl q1516), (Or.inl rfl)⟩, ⟨tg9, Nat.le_of_ble_eq_true rfl, Or.inr ⟨rfl, rfl, q1516⟩⟩, isR_O⟩, trivial⟩
theorem pf_X7_64i : Fl2 (fun t k => FLs "BallotBus$Parser" 64 t k ∧ FPs "BallotBus$Parser" "<init>" 64 t k ∧ isR (cTy t k)) [(9, 1)] := ⟨⟨⟨rfl, Nat.le_of_ble_eq_true rfl, "BallotBus$Parser", (Or.inl q1517), (Or.inl rfl)⟩, ⟨tg9, Nat.le_of_ble_eq_true rfl, Or.inr ⟨rfl, rfl, q1517⟩⟩, isR_O⟩, trivial⟩
theorem pf_X7_71i : Fl2 (fun t k => FLs "BallotBus$Parser" 71 t k ∧ FPs "BallotBus$Parser" "<init>" 71 t k ∧ isR (cTy t k)) [(9, 2)] := ⟨⟨⟨rfl, Nat.le_of_ble_eq_true rfl, "BallotBus$Parser", (Or.inl q1518), (Or.inl rfl)⟩, ⟨tg9, Nat.le_of_ble_eq_true rfl, Or.inr ⟨rfl, rfl, q1518⟩⟩, isR_O⟩, trivial⟩
theorem pf_X7_77i {nm : String} : Fl2 (fun t k => FLs "BallotBus$Parser" 77 t k ∧ FPs "BallotBus$Parser" nm 77 t k ∧ isR (cTy t k)) [(9, 7)] := ⟨⟨⟨rfl, Nat.le_of_ble_eq_true rfl, "BallotBus$Parser", (Or.inl q1523), (Or.inl rfl)⟩, ⟨tg9, Nat.le_of_ble_eq_true rfl, Or.inl rfl⟩, isR_O⟩, trivial⟩
theorem gf_X7_92 : Fl2 (fun t k => FLs "BallotBus$Parser" 92 t k ∧ ∀ (G : Hp) (a : Nat), fval G a k (cTy t k) = rdI G a k) [(9, 3)] := ⟨⟨⟨rfl, Nat.le_of_ble_eq_true rfl, "BallotBus$Parser", (Or.inl q1519), (Or.inl rfl)⟩, fun _ _ => rfl⟩, trivial⟩
theorem pf_X7_92 {nm : String} : Fl2 (fun t k => FLs "BallotBus$Parser" 92 t k ∧ FPs "BallotBus$Parser" nm 92 t k ∧ isI (cTy t k) okI) [(9, 3)] := ⟨⟨⟨rfl, Nat.le_of_ble_eq_true rfl, "BallotBus$Parser", (Or.inl q1519), (Or.inl rfl)⟩, ⟨tg9, Nat.le_of_ble_eq_true rfl, Or.inl rfl⟩, isI_I⟩, trivial⟩
theorem pf_X7_99 {nm : String} : Fl2 (fun t k => FLs "BallotBus$Parser" 99 t k ∧ FPs "BallotBus$Parser" nm 99 t k ∧ isI (cTy t k) okI) [(9, 4)] := ⟨⟨⟨rfl, Nat.le_of_ble_eq_true rfl, "BallotBus$Parser", (Or.inl q1520), (Or.inl rfl)⟩, ⟨tg9, Nat.le_of_ble_eq_true rfl, Or.inl rfl⟩, isI_I⟩, trivial⟩
theorem pf_X7_77 {nm : String} : Fl2 (fun t k => FLs "BallotBus$Parser" 77 t k ∧ FPs "BallotBus$Parser" nm 77 t k ∧ isR (cTy t k)) [(9, 7)] := ⟨⟨⟨rfl, Nat.le_of_ble_eq_true rfl, "BallotBus$Parser", (Or.inl q1523), (Or.inl rfl)⟩, ⟨tg9, Nat.le_of_ble_eq_true rfl, Or.inl rfl⟩, isR_O⟩, trivial⟩
theorem pf_X7_102 {nm : String} : Fl2 (fun t k => FLs "BallotBus$Parser" 102 t k ∧ FPs "BallotBus$Parser" nm 102 t k ∧ isI (cTy t k) okI) [(9, 6)] := ⟨⟨⟨rfl, Nat.le_of_ble_eq_true rfl, "BallotBus$Parser", (Or.inl q1522), (Or.inl rfl)⟩, ⟨tg9, Nat.le_of_ble_eq_true rfl, Or.inl rfl⟩, isI_I⟩, trivial⟩
theorem pf_X7_105 {nm : String} : Fl2 (fun t k => FLs "BallotBus$Parser" 105 t k ∧ FPs "BallotBus$Parser" nm 105 t k ∧ isI (cTy t k) okI) [(9, 5)] := ⟨⟨⟨rfl, Nat.le_of_ble_eq_true rfl, "BallotBus$Parser", (Or.inl q1521), (Or.inl rfl)⟩, ⟨tg9, Nat.le_of_ble_eq_true rfl, Or.inl rfl⟩, isI_I⟩, trivial⟩
theorem gf_X7_99 : Fl2 (fun t k => FLs "BallotBus$Parser" 99 t k ∧ ∀ (G : Hp) (a : Nat), fval G a k (cTy t k) = rdI G a k) [(9, 4)] := ⟨⟨⟨rfl, Nat.le_of_ble_eq_true rfl, "BallotBus$Parser", (Or.inl q1520), (Or.inl rfl)⟩, fun _ _ => rfl⟩, trivial⟩
theorem gf_X7_102 : Fl2 (fun t k => FLs "BallotBus$Parser" 102 t k ∧ ∀ (G : Hp) (a : Nat), fval G a k (cTy t k) = rdI G a k) [(9, 6)] := ⟨⟨⟨rfl, Nat.le_of_ble_eq_true rfl, "BallotBus$Parser", (Or.inl q1522), (Or.inl rfl)⟩, fun _ _ => rfl⟩, trivial⟩
theorem gf_X7_3 : Fl2 (fun t k => FLs "BallotBus$Parser" 3 t k ∧ ∀ (G : Hp) (a : Nat), fval G a k (cTy t k) = rdR G a k) [(9, 8)] := ⟨⟨⟨rfl, Nat.le_of_ble_eq_true rfl, "BallotBus$Parser", (Or.inl q1524), (Or.inl rfl)⟩, fun _ _ => rfl⟩, trivial⟩
theorem gf_X7_84 : Fl2 (fun t k => FLs "BallotBus$Parser" 84 t k ∧ ∀ (G : Hp) (a : Nat), fval G a k (cTy t k) = rdI G a k) [(1, 5)] := ⟨⟨⟨rfl, Nat.le_of_ble_eq_true rfl, "BallotBus", (Or.inr ⟨_, List.mem_of_getElem? (i := 65) rfl⟩), (Or.inl rfl)⟩, fun _ _ => rfl⟩, trivial⟩
theorem gf_X7_88 : Fl2 (fun t k => FLs "BallotBus$Parser" 88 t k ∧ ∀ (G : Hp) (a : Nat), fval G a k (cTy t k) = rdR G a k) [(1, 4)] := ⟨⟨⟨rfl, Nat.le_of_ble_eq_true rfl, "BallotBus", (Or.inr ⟨_, List.mem_of_getElem? (i := 64) rfl⟩), (Or.inl rfl)⟩, fun _ _ => rfl⟩, trivial⟩
theorem gf_X7_105 : Fl2 (fun t k => FLs "BallotBus$Parser" 105 t k ∧ ∀ (G : Hp) (a : Nat), fval G a k (cTy t k) = rdI G a k) [(9, 5)] := ⟨⟨⟨rfl, Nat.le_of_ble_eq_true rfl, "BallotBus$Parser", (Or.inl q1521), (Or.inl rfl)⟩, fun _ _ => rfl⟩, trivial⟩
theorem gf_X7_64 : Fl2 (fun t k => FLs "BallotBus$Parser" 64 t k ∧ ∀ (G : Hp) (a : Nat), fval G a k (cTy t k) = rdR G a k) [(9, 1)] := ⟨⟨⟨rfl, Nat.le_of_ble_eq_true rfl, "BallotBus$Parser", (Or.inl q1517), (Or.inl rfl)⟩, fun _ _ => rfl⟩, trivial⟩
theorem gf_X7_77 : Fl2 (fun t k => FLs "BallotBus$Parser" 77 t k ∧ ∀ (G : Hp) (a : Nat), fval G a k (cTy t k) = rdR G a k) [(9, 7)] := ⟨⟨⟨rfl, Nat.le_of_ble_eq_true rfl, "BallotBus$Parser", (Or.inl q1523), (Or.inl rfl)⟩, fun _ _ => rfl⟩, trivial⟩
theorem pf_X7_244 {nm : String} : Fl2 (fun t k => FLs "BallotBus$Parser" 244 t k ∧ FPs "BallotBus$Parser" nm 244 t k ∧ isI (cTy t k) okI) [(5, 8)] := ⟨⟨⟨rfl, Nat.le_of_ble_eq_true rfl, "BallotBus$Setup", (Or.inr ⟨_, List.mem_of_getElem? (i := 15) rfl⟩), (Or.inl rfl)⟩, ⟨tg5, Nat.le_of_ble_eq_true rfl, Or.inl rfl⟩, isI_I⟩, trivial⟩
theorem pf_X7_246 {nm : String} : Fl2 (fun t k => FLs "BallotBus$Parser" 246 t k ∧ FPs "BallotBus$Parser" nm 246 t k ∧ isI (cTy t k) okI) [(5, 9)] := ⟨⟨⟨rfl, Nat.le_of_ble_eq_true rfl, "BallotBus$Setup", (Or.inr ⟨_, List.mem_of_getElem? (i := 18) rfl⟩), (Or.inl rfl)⟩, ⟨tg5, Nat.le_of_ble_eq_true rfl, Or.inl rfl⟩, isI_I⟩, trivial⟩
theorem pf_X7_248 {nm : String} : Fl2 (fun t k => FLs "BallotBus$Parser" 248 t k ∧ FPs "BallotBus$Parser" nm 248 t k ∧ isI (cTy t k) okI) [(5, 10)] := ⟨⟨⟨rfl, Nat.le_of_ble_eq_true rfl, "BallotBus$Setup", (Or.inr ⟨_, List.mem_of_getElem? (i := 21) rfl⟩), (Or.inl rfl)⟩, ⟨tg5, Nat.le_of_ble_eq_true rfl, Or.inl rfl⟩, isI_I⟩, trivial⟩
theorem pf_X7_250 {nm : String} : Fl2 (fun t k => FLs "BallotBus$Parser" 250 t k ∧ FPs "BallotBus$Parser" nm 250 t k ∧ isI (cTy t k) okI) [(5, 11)] := ⟨⟨⟨rfl, Nat.le_of_ble_eq_true rfl, "BallotBus$Setup", (Or.inr ⟨_, List.mem_of_getElem? (i := 24) rfl⟩), (Or.inl rfl)⟩, ⟨tg5, Nat.le_of_ble_eq_true rfl, Or.inl rfl⟩, isI_I⟩, trivial⟩
theorem pf_X7_252 {nm : String} : Fl2 (fun t k => FLs "BallotBus$Parser" 252 t k ∧ FPs "BallotBus$Parser" nm 252 t k ∧ isI (cTy t k) okI) [(5, 12)] := ⟨⟨⟨rfl, Nat.le_of_ble_eq_true rfl, "BallotBus$Setup", (Or.inr ⟨_, List.mem_of_getElem? (i := 28) rfl⟩), (Or.inl rfl)⟩, ⟨tg5, Nat.le_of_ble_eq_true rfl, Or.inl rfl⟩, isI_I⟩, trivial⟩
theorem gf_X7_162 : Fl2 (fun t k => FLs "BallotBus$Parser" 162 t k ∧ ∀ (G : Hp) (a : Nat), fval G a k (cTy t k) = rdR G a k) [(5, 0)] := ⟨⟨⟨rfl, Nat.le_of_ble_eq_true rfl, "BallotBus$Setup", (Or.inr ⟨_, List.mem_of_getElem? (i := 1) rfl⟩), (Or.inl rfl)⟩, fun _ _ => rfl⟩, trivial⟩
theorem gf_X7_57 : Fl2 (fun t k => FLs "BallotBus$Parser" 57 t k ∧ ∀ (G : Hp) (a : Nat), fval G a k (cTy t k) = rdR G a k) [(9, 0)] := ⟨⟨⟨rfl, Nat.le_of_ble_eq_true rfl, "BallotBus$Parser", (Or.inl q1516), (Or.inl rfl)⟩, fun _ _ => rfl⟩, trivial⟩
theorem gf_X7_181 : Fl2 (fun t k => FLs "BallotBus$Parser" 181 t k ∧ ∀ (G : Hp) (a : Nat), fval G a k (cTy t k) = rdR G a k) [(5, 1)] := ⟨⟨⟨rfl, Nat.le_of_ble_eq_true rfl, "BallotBus$Setup", (Or.inr ⟨_, List.mem_of_getElem? (i := 3) rfl⟩), (Or.inl rfl)⟩, fun _ _ => rfl⟩, trivial⟩
theorem gf_X7_192 : Fl2 (fun t k => FLs "BallotBus$Parser" 192 t k ∧ ∀ (G : Hp) (a : Nat), fval G a k (cTy t k) = rdR G a k) [(5, 3)] := ⟨⟨⟨rfl, Nat.le_of_ble_eq_true rfl, "BallotBus$Setup", (Or.inr ⟨_, List.mem_of_getElem? (i := 7) rfl⟩), (Or.inl rfl)⟩, fun _ _ => rfl⟩, trivial⟩
theorem pf_X7_224 {nm : String} : Fl2 (fun t k => FLs "BallotBus$Parser" 224 t k ∧ FPs "BallotBus$Parser" nm 224 t k ∧ isI (cTy t k) okI) [(5, 7)] := ⟨⟨⟨rfl, Nat.le_of_ble_eq_true rfl, "BallotBus$Setup", (Or.inr ⟨_, List.mem_of_getElem? (i := 13) rfl⟩), (Or.inl rfl)⟩, ⟨tg5, Nat.le_of_ble_eq_true rfl, Or.inl rfl⟩, isI_I⟩, trivial⟩
theorem gf_X7_224 : Fl2 (fun t k => FLs "BallotBus$Parser" 224 t k ∧ ∀ (G : Hp) (a : Nat), fval G a k (cTy t k) = rdI G a k) [(5, 7)] := ⟨⟨⟨rfl, Nat.le_of_ble_eq_true rfl, "BallotBus$Setup", (Or.inr ⟨_, List.mem_of_getElem? (i := 13) rfl⟩), (Or.inl rfl)⟩, fun _ _ => rfl⟩, trivial⟩
theorem gf_X7_71 : Fl2 (fun t k => FLs "BallotBus$Parser" 71 t k ∧ ∀ (G : Hp) (a : Nat), fval G a k (cTy t k) = rdR G a k) [(9, 2)] := ⟨⟨⟨rfl, Nat.le_of_ble_eq_true rfl, "BallotBus$Parser", (Or.inl q1518), (Or.inl rfl)⟩, fun _ _ => rfl⟩, trivial⟩
theorem pf_X8_7i : Fl2 (fun t k => FLs "BallotBus$ParseException" 7 t k ∧ FPs "BallotBus$ParseException" "<init>" 7 t k ∧ isI (cTy t k) okI) [(10, 6)] := ⟨⟨⟨rfl, Nat.le_of_ble_eq_true rfl, "BallotBus$ParseException", (Or.inl q1647), (Or.inl rfl)⟩, ⟨tg10, Nat.le_of_ble_eq_true rfl, Or.inr ⟨rfl, rfl, q1647⟩⟩, isI_I⟩, trivial⟩
theorem pf_X8_13i : Fl2 (fun t k => FLs "BallotBus$ParseException" 13 t k ∧ FPs "BallotBus$ParseException" "<init>" 13 t k ∧ isI (cTy t k) okI) [(10, 7)] := ⟨⟨⟨rfl, Nat.le_of_ble_eq_true rfl, "BallotBus$ParseException", (Or.inl q1649), (Or.inl rfl)⟩, ⟨tg10, Nat.le_of_ble_eq_true rfl, Or.inr ⟨rfl, rfl, q1649⟩⟩, isI_I⟩, trivial⟩
theorem pf_X9_7i : Fl2 (fun t k => FLs "BallotBus$Request" 7 t k ∧ FPs "BallotBus$Request" "<init>" 7 t k ∧ isI (cTy t k) okI) [(11, 0)] := ⟨⟨⟨rfl, Nat.le_of_ble_eq_true rfl, "BallotBus$Request", (Or.inl q1787), (Or.inl rfl)⟩, ⟨tg11, Nat.le_of_ble_eq_true rfl, Or.inr ⟨rfl, rfl, q1787⟩⟩, isI_I⟩, trivial⟩
theorem pf_X9_13i : Fl2 (fun t k => FLs "BallotBus$Request" 13 t k ∧ FPs "BallotBus$Request" "<init>" 13 t k ∧ isI (cTy t k) okI) [(11, 1)] := ⟨⟨⟨rfl, Nat.le_of_ble_eq_true rfl, "BallotBus$Request", (Or.inl q1791), (Or.inl rfl)⟩, ⟨tg11, Nat.le_of_ble_eq_true rfl, Or.inr ⟨rfl, rfl, q1791⟩⟩, isI_I⟩, trivial⟩
theorem pf_X9_16i : Fl2 (fun t k => FLs "BallotBus$Request" 16 t k ∧ FPs "BallotBus$Request" "<init>" 16 t k ∧ isI (cTy t k) okI) [(11, 2)] := ⟨⟨⟨rfl, Nat.le_of_ble_eq_true rfl, "BallotBus$Request", (Or.inl q1794), (Or.inl rfl)⟩, ⟨tg11, Nat.le_of_ble_eq_true rfl, Or.inr ⟨rfl, rfl, q1794⟩⟩, isI_I⟩, trivial⟩
theorem pf_X9_19i : Fl2 (fun t k => FLs "BallotBus$Request" 19 t k ∧ FPs "BallotBus$Request" "<init>" 19 t k ∧ isI (cTy t k) okI) [(11, 3)] := ⟨⟨⟨rfl, Nat.le_of_ble_eq_true rfl, "BallotBus$Request", (Or.inl q1797), (Or.inl rfl)⟩, ⟨tg11, Nat.le_of_ble_eq_true rfl, Or.inr ⟨rfl, rfl, q1797⟩⟩, isI_I⟩, trivial⟩
theorem pf_X9_22i : Fl2 (fun t k => FLs "BallotBus$Request" 22 t k ∧ FPs "BallotBus$Request" "<init>" 22 t k ∧ isI (cTy t k) okI) [(11, 4)] := ⟨⟨⟨rfl, Nat.le_of_ble_eq_true rfl, "BallotBus$Request", (Or.inl q1800), (Or.inl rfl)⟩, ⟨tg11, Nat.le_of_ble_eq_true rfl, Or.inr ⟨rfl, rfl, q1800⟩⟩, isI_I⟩, trivial⟩
theorem gf_X10_7 : Fl2 (fun t k => FLs "BallotBus$ByMeasure" 7 t k ∧ ∀ (G : Hp) (a : Nat), fval G a k (cTy t k) = rdR G a k) [(12, 0)] := ⟨⟨⟨rfl, Nat.le_of_ble_eq_true rfl, "BallotBus$ByMeasure", (Or.inl q2446), (Or.inl rfl)⟩, fun _ _ => rfl⟩, trivial⟩
theorem gf_X10_25 : Fl2 (fun t k => FLs "BallotBus$ByMeasure" 25 t k ∧ ∀ (G : Hp) (a : Nat), fval G a k (cTy t k) = rdI G a k) [(11, 0)] := ⟨⟨⟨rfl, Nat.le_of_ble_eq_true rfl, "BallotBus$Request", (Or.inr ⟨_, List.mem_of_getElem? (i := 68) rfl⟩), (Or.inl rfl)⟩, fun _ _ => rfl⟩, trivial⟩
theorem pf_X10_7i : Fl2 (fun t k => FLs "BallotBus$ByMeasure" 7 t k ∧ FPs "BallotBus$ByMeasure" "<init>" 7 t k ∧ isR (cTy t k)) [(12, 0)] := ⟨⟨⟨rfl, Nat.le_of_ble_eq_true rfl, "BallotBus$ByMeasure", (Or.inl q2446), (Or.inl rfl)⟩, ⟨tg12, Nat.le_of_ble_eq_true rfl, Or.inr ⟨rfl, rfl, q2446⟩⟩, isR_O⟩, trivial⟩
theorem gf_X12_7 : Fl2 (fun t k => FLs "BallotBus$Tally$1" 7 t k ∧ ∀ (G : Hp) (a : Nat), fval G a k (cTy t k) = rdR G a k) [(7, 0)] := ⟨⟨⟨rfl, Nat.le_of_ble_eq_true rfl, "BallotBus$Sheet", (Or.inr ⟨_, List.mem_of_getElem? (i := 29) rfl⟩), (Or.inl rfl)⟩, fun _ _ => rfl⟩, trivial⟩
theorem gf_X13_9 : Fl2 (fun t k => FLs "BallotBus$Tally$2" 9 t k ∧ ∀ (G : Hp) (a : Nat), fval G a k (cTy t k) = rdI G a k) [(7, 3)] := ⟨⟨⟨rfl, Nat.le_of_ble_eq_true rfl, "BallotBus$Sheet", (Or.inr ⟨_, List.mem_of_getElem? (i := 33) rfl⟩), (Or.inl rfl)⟩, fun _ _ => rfl⟩, trivial⟩
theorem gf_X13_15 : Fl2 (fun t k => FLs "BallotBus$Tally$2" 15 t k ∧ ∀ (G : Hp) (a : Nat), fval G a k (cTy t k) = rdR G a k) [(7, 1)] := ⟨⟨⟨rfl, Nat.le_of_ble_eq_true rfl, "BallotBus$Sheet", (Or.inr ⟨_, List.mem_of_getElem? (i := 31) rfl⟩), (Or.inl rfl)⟩, fun _ _ => rfl⟩, trivial⟩
theorem gf_J0_7 : Fl2 (fun t k => FLs "java/lang/Enum" 7 t k ∧ ∀ (G : Hp) (a : Nat), fval G a k (cTy t k) = rdI G a k) [(2, 0), (3, 0), (4, 0)] := ⟨⟨⟨rfl, Nat.le_of_ble_eq_true rfl, "java/lang/Enum", (Or.inl q3612), (Or.inl rfl)⟩, fun _ _ => rfl⟩, ⟨⟨⟨rfl, Nat.le_of_ble_eq_true rfl, "java/lang/Enum", (Or.inl q3612), (Or.inl rfl)⟩, fun _ _ => rfl⟩, ⟨⟨⟨rfl, Nat.le_of_ble_eq_true rfl, "java/lang/Enum", (Or.inl q3612), (Or.inl rfl)⟩, fun _ _ => rfl⟩, trivial⟩⟩⟩
theorem pf_J2_7i {nm : String} : Fl2 (fun t k => FLs "java/util/AbstractList" 7 t k ∧ FPs "java/util/AbstractList" nm 7 t k ∧ isI (cTy t k) okI) [(13, 0)] := ⟨⟨⟨rfl, Nat.le_of_ble_eq_true rfl, "java/util/AbstractList", (Or.inl q224), (Or.inl rfl)⟩, ⟨tg13, Nat.le_of_ble_eq_true rfl, Or.inl rfl⟩, isI_I⟩, trivial⟩
theorem pf_J3_9i {nm : String} : Fl2 (fun t k => FLs "java/util/ArrayList" 9 t k ∧ FPs "java/util/ArrayList" nm 9 t k ∧ isR (cTy t k)) [(13, 1)] := ⟨⟨⟨rfl, Nat.le_of_ble_eq_true rfl, "java/util/ArrayList", (Or.inl q220), (Or.inl rfl)⟩, ⟨tg13, Nat.le_of_ble_eq_true rfl, Or.inl rfl⟩, isR_A⟩, trivial⟩
theorem gf_J3_63 : Fl2 (fun t k => FLs "java/util/ArrayList" 63 t k ∧ ∀ (G : Hp) (a : Nat), fval G a k (cTy t k) = rdI G a k) [(13, 0)] := ⟨⟨⟨rfl, Nat.le_of_ble_eq_true rfl, "java/util/ArrayList", (Or.inl q227), (Or.inr q226)⟩, fun _ _ => rfl⟩, trivial⟩
theorem pf_J3_63 {nm : String} : Fl2 (fun t k => FLs "java/util/ArrayList" 63 t k ∧ FPs "java/util/ArrayList" nm 63 t k ∧ isI (cTy t k) okI) [(13, 0)] := ⟨⟨⟨rfl, Nat.le_of_ble_eq_true rfl, "java/util/ArrayList", (Or.inl q227), (Or.inr q226)⟩, ⟨tg13, Nat.le_of_ble_eq_true rfl, Or.inl rfl⟩, isI_I⟩, trivial⟩
theorem gf_J3_9 : Fl2 (fun t k => FLs "java/util/ArrayList" 9 t k ∧ ∀ (G : Hp) (a : Nat), fval G a k (cTy t k) = rdR G a k) [(13, 1)] := ⟨⟨⟨rfl, Nat.le_of_ble_eq_true rfl, "java/util/ArrayList", (Or.inl q220), (Or.inl rfl)⟩, fun _ _ => rfl⟩, trivial⟩
theorem gf_J3_48 : Fl2 (fun t k => FLs "java/util/ArrayList" 48 t k ∧ ∀ (G : Hp) (a : Nat), fval G a k (cTy t k) = rdI G a k) [(13, 2)] := ⟨⟨⟨rfl, Nat.le_of_ble_eq_true rfl, "java/util/ArrayList", (Or.inl q223), (Or.inl rfl)⟩, fun _ _ => rfl⟩, trivial⟩
theorem pf_J3_48 {nm : String} : Fl2 (fun t k => FLs "java/util/ArrayList" 48 t k ∧ FPs "java/util/ArrayList" nm 48 t k ∧ isI (cTy t k) okI) [(13, 2)] := ⟨⟨⟨rfl, Nat.le_of_ble_eq_true rfl, "java/util/ArrayList", (Or.inl q223), (Or.inl rfl)⟩, ⟨tg13, Nat.le_of_ble_eq_true rfl, Or.inl rfl⟩, isI_I⟩, trivial⟩
theorem pf_J3_9 {nm : String} : Fl2 (fun t k => FLs "java/util/ArrayList" 9 t k ∧ FPs "java/util/ArrayList" nm 9 t k ∧ isR (cTy t k)) [(13, 1)] := ⟨⟨⟨rfl, Nat.le_of_ble_eq_true rfl, "java/util/ArrayList", (Or.inl q220), (Or.inl rfl)⟩, ⟨tg13, Nat.le_of_ble_eq_true rfl, Or.inl rfl⟩, isR_A⟩, trivial⟩
theorem pf_J4_15i {nm : String} : Fl2 (fun t k => FLs "java/lang/AbstractStringBuilder" 15 t k ∧ FPs "java/lang/AbstractStringBuilder" nm 15 t k ∧ isR (cTy t k)) [(14, 0)] := ⟨⟨⟨rfl, Nat.le_of_ble_eq_true rfl, "java/lang/AbstractStringBuilder", (Or.inl q253), (Or.inl rfl)⟩, ⟨tg14, Nat.le_of_ble_eq_true rfl, Or.inl rfl⟩, isR_A⟩, trivial⟩
theorem pf_J4_22i {nm : String} : Fl2 (fun t k => FLs "java/lang/AbstractStringBuilder" 22 t k ∧ FPs "java/lang/AbstractStringBuilder" nm 22 t k ∧ isI (cTy t k) okB) [(14, 1)] := ⟨⟨⟨rfl, Nat.le_of_ble_eq_true rfl, "java/lang/AbstractStringBuilder", (Or.inl q254), (Or.inl rfl)⟩, ⟨tg14, Nat.le_of_ble_eq_true rfl, Or.inl rfl⟩, isI_B⟩, trivial⟩
theorem gf_J4_15 : Fl2 (fun t k => FLs "java/lang/AbstractStringBuilder" 15 t k ∧ ∀ (G : Hp) (a : Nat), fval G a k (cTy t k) = rdR G a k) [(14, 0)] := ⟨⟨⟨rfl, Nat.le_of_ble_eq_true rfl, "java/lang/AbstractStringBuilder", (Or.inl q253), (Or.inl rfl)⟩, fun _ _ => rfl⟩, trivial⟩
theorem gf_J4_79 : Fl2 (fun t k => FLs "java/lang/AbstractStringBuilder" 79 t k ∧ ∀ (G : Hp) (a : Nat), fval G a k (cTy t k) = rdI G a k) [(14, 3)] := ⟨⟨⟨rfl, Nat.le_of_ble_eq_true rfl, "java/lang/AbstractStringBuilder", (Or.inl q257), (Or.inl rfl)⟩, fun _ _ => rfl⟩, trivial⟩
theorem gf_J4_22 : Fl2 (fun t k => FLs "java/lang/AbstractStringBuilder" 22 t k ∧ ∀ (G : Hp) (a : Nat), fval G a k (cTy t k) = rdI G a k) [(14, 1)] := ⟨⟨⟨rfl, Nat.le_of_ble_eq_true rfl, "java/lang/AbstractStringBuilder", (Or.inl q254), (Or.inl rfl)⟩, fun _ _ => rfl⟩, trivial⟩
theorem pf_J4_79 {nm : String} : Fl2 (fun t k => FLs "java/lang/AbstractStringBuilder" 79 t k ∧ FPs "java/lang/AbstractStringBuilder" nm 79 t k ∧ isI (cTy t k) okI) [(14, 3)] := ⟨⟨⟨rfl, Nat.le_of_ble_eq_true rfl, "java/lang/AbstractStringBuilder", (Or.inl q257), (Or.inl rfl)⟩, ⟨tg14, Nat.le_of_ble_eq_true rfl, Or.inl rfl⟩, isI_I⟩, trivial⟩
theorem pf_J4_15 {nm : String} : Fl2 (fun t k => FLs "java/lang/AbstractStringBuilder" 15 t k ∧ FPs "java/lang/AbstractStringBuilder" nm 15 t k ∧ isR (cTy t k)) [(14, 0)] := ⟨⟨⟨rfl, Nat.le_of_ble_eq_true rfl, "java/lang/AbstractStringBuilder", (Or.inl q253), (Or.inl rfl)⟩, ⟨tg14, Nat.le_of_ble_eq_true rfl, Or.inl rfl⟩, isR_A⟩, trivial⟩
theorem pf_J4_22 {nm : String} : Fl2 (fun t k => FLs "java/lang/AbstractStringBuilder" 22 t k ∧ FPs "java/lang/AbstractStringBuilder" nm 22 t k ∧ isI (cTy t k) okB) [(14, 1)] := ⟨⟨⟨rfl, Nat.le_of_ble_eq_true rfl, "java/lang/AbstractStringBuilder", (Or.inl q254), (Or.inl rfl)⟩, ⟨tg14, Nat.le_of_ble_eq_true rfl, Or.inl rfl⟩, isI_B⟩, trivial⟩
theorem pf_J4_73 {nm : String} : Fl2 (fun t k => FLs "java/lang/AbstractStringBuilder" 73 t k ∧ FPs "java/lang/AbstractStringBuilder" nm 73 t k ∧ isI (cTy t k) okZ) [(14, 2)] := ⟨⟨⟨rfl, Nat.le_of_ble_eq_true rfl, "java/lang/AbstractStringBuilder", (Or.inl q255), (Or.inl rfl)⟩, ⟨tg14, Nat.le_of_ble_eq_true rfl, Or.inl rfl⟩, isI_Z⟩, trivial⟩
theorem gf_J6_9 : Fl2 (fun t k => FLs "java/lang/String" 9 t k ∧ ∀ (G : Hp) (a : Nat), fval G a k (cTy t k) = rdR G a k) [(15, 0)] := ⟨⟨⟨rfl, Nat.le_of_ble_eq_true rfl, "java/lang/String", (Or.inl q1503), (Or.inl rfl)⟩, fun _ _ => rfl⟩, trivial⟩
theorem gf_J6_15 : Fl2 (fun t k => FLs "java/lang/String" 15 t k ∧ ∀ (G : Hp) (a : Nat), fval G a k (cTy t k) = rdI G a k) [(15, 1)] := ⟨⟨⟨rfl, Nat.le_of_ble_eq_true rfl, "java/lang/String", (Or.inl q1504), (Or.inl rfl)⟩, fun _ _ => rfl⟩, trivial⟩
theorem pf_J6_15i : Fl2 (fun t k => FLs "java/lang/String" 15 t k ∧ FPs "java/lang/String" "<init>" 15 t k ∧ isI (cTy t k) okB) [(15, 1)] := ⟨⟨⟨rfl, Nat.le_of_ble_eq_true rfl, "java/lang/String", (Or.inl q1504), (Or.inl rfl)⟩, ⟨tg15, Nat.le_of_ble_eq_true rfl, Or.inr ⟨rfl, rfl, q1504⟩⟩, isI_B⟩, trivial⟩
theorem pf_J6_9i : Fl2 (fun t k => FLs "java/lang/String" 9 t k ∧ FPs "java/lang/String" "<init>" 9 t k ∧ isR (cTy t k)) [(15, 0)] := ⟨⟨⟨rfl, Nat.le_of_ble_eq_true rfl, "java/lang/String", (Or.inl q1503), (Or.inl rfl)⟩, ⟨tg15, Nat.le_of_ble_eq_true rfl, Or.inr ⟨rfl, rfl, q1503⟩⟩, isR_A⟩, trivial⟩
theorem gf_J6_1048 : Fl2 (fun t k => FLs "java/lang/String" 1048 t k ∧ ∀ (G : Hp) (a : Nat), fval G a k (cTy t k) = rdI G a k) [(14, 2)] := ⟨⟨⟨rfl, Nat.le_of_ble_eq_true rfl, "java/lang/AbstractStringBuilder", (Or.inl q256), (Or.inl rfl)⟩, fun _ _ => rfl⟩, trivial⟩
theorem gf_J6_19 : Fl2 (fun t k => FLs "java/lang/String" 19 t k ∧ ∀ (G : Hp) (a : Nat), fval G a k (cTy t k) = rdI G a k) [(15, 2)] := ⟨⟨⟨rfl, Nat.le_of_ble_eq_true rfl, "java/lang/String", (Or.inl q1505), (Or.inl rfl)⟩, fun _ _ => rfl⟩, trivial⟩
theorem gf_J6_23 : Fl2 (fun t k => FLs "java/lang/String" 23 t k ∧ ∀ (G : Hp) (a : Nat), fval G a k (cTy t k) = rdI G a k) [(15, 3)] := ⟨⟨⟨rfl, Nat.le_of_ble_eq_true rfl, "java/lang/String", (Or.inl q1506), (Or.inl rfl)⟩, fun _ _ => rfl⟩, trivial⟩
theorem pf_J6_23 {nm : String} : Fl2 (fun t k => FLs "java/lang/String" 23 t k ∧ FPs "java/lang/String" nm 23 t k ∧ isI (cTy t k) okZ) [(15, 3)] := ⟨⟨⟨rfl, Nat.le_of_ble_eq_true rfl, "java/lang/String", (Or.inl q1506), (Or.inl rfl)⟩, ⟨tg15, Nat.le_of_ble_eq_true rfl, Or.inl rfl⟩, isI_Z⟩, trivial⟩
theorem pf_J6_19 {nm : String} : Fl2 (fun t k => FLs "java/lang/String" 19 t k ∧ FPs "java/lang/String" nm 19 t k ∧ isI (cTy t k) okI) [(15, 2)] := ⟨⟨⟨rfl, Nat.le_of_ble_eq_true rfl, "java/lang/String", (Or.inl q1505), (Or.inl rfl)⟩, ⟨tg15, Nat.le_of_ble_eq_true rfl, Or.inl rfl⟩, isI_I⟩, trivial⟩
theorem pf_J9_7i {nm : String} : Fl2 (fun t k => FLs "java/util/TreeMap" 7 t k ∧ FPs "java/util/TreeMap" nm 7 t k ∧ isI (cTy t k) okI) [(16, 4)] := ⟨⟨⟨rfl, Nat.le_of_ble_eq_true rfl, "java/util/TreeMap", (Or.inl q286), (Or.inl rfl)⟩, ⟨tg16, Nat.le_of_ble_eq_true rfl, Or.inl rfl⟩, isI_I⟩, trivial⟩
theorem pf_J9_13i {nm : String} : Fl2 (fun t k => FLs "java/util/TreeMap" 13 t k ∧ FPs "java/util/TreeMap" nm 13 t k ∧ isI (cTy t k) okI) [(16, 5)] := ⟨⟨⟨rfl, Nat.le_of_ble_eq_true rfl, "java/util/TreeMap", (Or.inl q287), (Or.inl rfl)⟩, ⟨tg16, Nat.le_of_ble_eq_true rfl, Or.inl rfl⟩, isI_I⟩, trivial⟩
theorem pf_J9_16i : Fl2 (fun t k => FLs "java/util/TreeMap" 16 t k ∧ FPs "java/util/TreeMap" "<init>" 16 t k ∧ isR (cTy t k)) [(16, 2)] := ⟨⟨⟨rfl, Nat.le_of_ble_eq_true rfl, "java/util/TreeMap", (Or.inl q284), (Or.inl rfl)⟩, ⟨tg16, Nat.le_of_ble_eq_true rfl, Or.inr ⟨rfl, rfl, q284⟩⟩, isR_O⟩, trivial⟩
theorem gf_J9_7 : Fl2 (fun t k => FLs "java/util/TreeMap" 7 t k ∧ ∀ (G : Hp) (a : Nat), fval G a k (cTy t k) = rdI G a k) [(16, 4)] := ⟨⟨⟨rfl, Nat.le_of_ble_eq_true rfl, "java/util/TreeMap", (Or.inl q286), (Or.inl rfl)⟩, fun _ _ => rfl⟩, trivial⟩
theorem gf_J9_101 : Fl2 (fun t k => FLs "java/util/TreeMap" 101 t k ∧ ∀ (G : Hp) (a : Nat), fval G a k (cTy t k) = rdR G a k) [(16, 3)] := ⟨⟨⟨rfl, Nat.le_of_ble_eq_true rfl, "java/util/TreeMap", (Or.inl q285), (Or.inl rfl)⟩, fun _ _ => rfl⟩, trivial⟩
theorem gf_J9_16 : Fl2 (fun t k => FLs "java/util/TreeMap" 16 t k ∧ ∀ (G : Hp) (a : Nat), fval G a k (cTy t k) = rdR G a k) [(16, 2)] := ⟨⟨⟨rfl, Nat.le_of_ble_eq_true rfl, "java/util/TreeMap", (Or.inl q284), (Or.inl rfl)⟩, fun _ _ => rfl⟩, trivial⟩
theorem gf_J9_105 : Fl2 (fun t k => FLs "java/util/TreeMap" 105 t k ∧ ∀ (G : Hp) (a : Nat), fval G a k (cTy t k) = rdR G a k) [(18, 0)] := ⟨⟨⟨rfl, Nat.le_of_ble_eq_true rfl, "java/util/TreeMap$Entry", (Or.inl q797), (Or.inl rfl)⟩, fun _ _ => rfl⟩, trivial⟩
theorem gf_J9_111 : Fl2 (fun t k => FLs "java/util/TreeMap" 111 t k ∧ ∀ (G : Hp) (a : Nat), fval G a k (cTy t k) = rdR G a k) [(18, 2)] := ⟨⟨⟨rfl, Nat.le_of_ble_eq_true rfl, "java/util/TreeMap$Entry", (Or.inl q800), (Or.inl rfl)⟩, fun _ _ => rfl⟩, trivial⟩
theorem gf_J9_114 : Fl2 (fun t k => FLs "java/util/TreeMap" 114 t k ∧ ∀ (G : Hp) (a : Nat), fval G a k (cTy t k) = rdR G a k) [(18, 3)] := ⟨⟨⟨rfl, Nat.le_of_ble_eq_true rfl, "java/util/TreeMap$Entry", (Or.inl q801), (Or.inl rfl)⟩, fun _ _ => rfl⟩, trivial⟩
theorem gf_J9_58 : Fl2 (fun t k => FLs "java/util/TreeMap" 58 t k ∧ ∀ (G : Hp) (a : Nat), fval G a k (cTy t k) = rdR G a k) [(18, 1)] := ⟨⟨⟨rfl, Nat.le_of_ble_eq_true rfl, "java/util/TreeMap$Entry", (Or.inl q799), (Or.inl rfl)⟩, fun _ _ => rfl⟩, trivial⟩
theorem pf_J9_58 {nm : String} : Fl2 (fun t k => FLs "java/util/TreeMap" 58 t k ∧ FPs "java/util/TreeMap" nm 58 t k ∧ isR (cTy t k)) [(18, 1)] := ⟨⟨⟨rfl, Nat.le_of_ble_eq_true rfl, "java/util/TreeMap$Entry", (Or.inl q799), (Or.inl rfl)⟩, ⟨tg18, Nat.le_of_ble_eq_true rfl, Or.inl rfl⟩, isR_O⟩, trivial⟩
theorem pf_J9_101 {nm : String} : Fl2 (fun t k => FLs "java/util/TreeMap" 101 t k ∧ FPs "java/util/TreeMap" nm 101 t k ∧ isR (cTy t k)) [(16, 3)] := ⟨⟨⟨rfl, Nat.le_of_ble_eq_true rfl, "java/util/TreeMap", (Or.inl q285), (Or.inl rfl)⟩, ⟨tg16, Nat.le_of_ble_eq_true rfl, Or.inl rfl⟩, isR_O⟩, trivial⟩
theorem pf_J9_7 {nm : String} : Fl2 (fun t k => FLs "java/util/TreeMap" 7 t k ∧ FPs "java/util/TreeMap" nm 7 t k ∧ isI (cTy t k) okI) [(16, 4)] := ⟨⟨⟨rfl, Nat.le_of_ble_eq_true rfl, "java/util/TreeMap", (Or.inl q286), (Or.inl rfl)⟩, ⟨tg16, Nat.le_of_ble_eq_true rfl, Or.inl rfl⟩, isI_I⟩, trivial⟩
theorem gf_J9_13 : Fl2 (fun t k => FLs "java/util/TreeMap" 13 t k ∧ ∀ (G : Hp) (a : Nat), fval G a k (cTy t k) = rdI G a k) [(16, 5)] := ⟨⟨⟨rfl, Nat.le_of_ble_eq_true rfl, "java/util/TreeMap", (Or.inl q287), (Or.inl rfl)⟩, fun _ _ => rfl⟩, trivial⟩
theorem pf_J9_13 {nm : String} : Fl2 (fun t k => FLs "java/util/TreeMap" 13 t k ∧ FPs "java/util/TreeMap" nm 13 t k ∧ isI (cTy t k) okI) [(16, 5)] := ⟨⟨⟨rfl, Nat.le_of_ble_eq_true rfl, "java/util/TreeMap", (Or.inl q287), (Or.inl rfl)⟩, ⟨tg16, Nat.le_of_ble_eq_true rfl, Or.inl rfl⟩, isI_I⟩, trivial⟩
theorem pf_J9_111 {nm : String} : Fl2 (fun t k => FLs "java/util/TreeMap" 111 t k ∧ FPs "java/util/TreeMap" nm 111 t k ∧ isR (cTy t k)) [(18, 2)] := ⟨⟨⟨rfl, Nat.le_of_ble_eq_true rfl, "java/util/TreeMap$Entry", (Or.inl q800), (Or.inl rfl)⟩, ⟨tg18, Nat.le_of_ble_eq_true rfl, Or.inl rfl⟩, isR_O⟩, trivial⟩
theorem pf_J9_114 {nm : String} : Fl2 (fun t k => FLs "java/util/TreeMap" 114 t k ∧ FPs "java/util/TreeMap" nm 114 t k ∧ isR (cTy t k)) [(18, 3)] := ⟨⟨⟨rfl, Nat.le_of_ble_eq_true rfl, "java/util/TreeMap$Entry", (Or.inl q801), (Or.inl rfl)⟩, ⟨tg18, Nat.le_of_ble_eq_true rfl, Or.inl rfl⟩, isR_O⟩, trivial⟩
theorem pf_J9_290 {nm : String} : Fl2 (fun t k => FLs "java/util/TreeMap" 290 t k ∧ FPs "java/util/TreeMap" nm 290 t k ∧ isI (cTy t k) okZ) [(18, 5)] := ⟨⟨⟨rfl, Nat.le_of_ble_eq_true rfl, "java/util/TreeMap$Entry", (Or.inl q805), (Or.inl rfl)⟩, ⟨tg18, Nat.le_of_ble_eq_true rfl, Or.inl rfl⟩, isI_Z⟩, trivial⟩
theorem gf_J9_124 : Fl2 (fun t k => FLs "java/util/TreeMap" 124 t k ∧ ∀ (G : Hp) (a : Nat), fval G a k (cTy t k) = rdR G a k) [(18, 4)] := ⟨⟨⟨rfl, Nat.le_of_ble_eq_true rfl, "java/util/TreeMap$Entry", (Or.inl q803), (Or.inl rfl)⟩, fun _ _ => rfl⟩, trivial⟩
theorem gf_J9_290 : Fl2 (fun t k => FLs "java/util/TreeMap" 290 t k ∧ ∀ (G : Hp) (a : Nat), fval G a k (cTy t k) = rdI G a k) [(18, 5)] := ⟨⟨⟨rfl, Nat.le_of_ble_eq_true rfl, "java/util/TreeMap$Entry", (Or.inl q805), (Or.inl rfl)⟩, fun _ _ => rfl⟩, trivial⟩
theorem pf_J9_124 {nm : String} : Fl2 (fun t k => FLs "java/util/TreeMap" 124 t k ∧ FPs "java/util/TreeMap" nm 124 t k ∧ isR (cTy t k)) [(18, 4)] := ⟨⟨⟨rfl, Nat.le_of_ble_eq_true rfl, "java/util/TreeMap$Entry", (Or.inl q803), (Or.inl rfl)⟩, ⟨tg18, Nat.le_of_ble_eq_true rfl, Or.inl rfl⟩, isR_O⟩, trivial⟩
theorem pf_J14_205i : Fl2 (fun t k => FLs "java/lang/Integer" 205 t k ∧ FPs "java/lang/Integer" "<init>" 205 t k ∧ isI (cTy t k) okI) [(17, 0)] := ⟨⟨⟨rfl, Nat.le_of_ble_eq_true rfl, "java/lang/Integer", (Or.inl q498), (Or.inl rfl)⟩, ⟨tg17, Nat.le_of_ble_eq_true rfl, Or.inr ⟨rfl, rfl, q498⟩⟩, isI_I⟩, trivial⟩
theorem gf_J14_205 : Fl2 (fun t k => FLs "java/lang/Integer" 205 t k ∧ ∀ (G : Hp) (a : Nat), fval G a k (cTy t k) = rdI G a k) [(17, 0)] := ⟨⟨⟨rfl, Nat.le_of_ble_eq_true rfl, "java/lang/Integer", (Or.inl q498), (Or.inl rfl)⟩, fun _ _ => rfl⟩, trivial⟩
theorem pf_J19_9i {nm : String} : Fl2 (fun t k => FLs "java/util/TreeMap$Entry" 9 t k ∧ FPs "java/util/TreeMap$Entry" nm 9 t k ∧ isI (cTy t k) okZ) [(18, 5)] := ⟨⟨⟨rfl, Nat.le_of_ble_eq_true rfl, "java/util/TreeMap$Entry", (Or.inl q804), (Or.inl rfl)⟩, ⟨tg18, Nat.le_of_ble_eq_true rfl, Or.inl rfl⟩, isI_Z⟩, trivial⟩
theorem pf_J19_15i {nm : String} : Fl2 (fun t k => FLs "java/util/TreeMap$Entry" 15 t k ∧ FPs "java/util/TreeMap$Entry" nm 15 t k ∧ isR (cTy t k)) [(18, 0)] := ⟨⟨⟨rfl, Nat.le_of_ble_eq_true rfl, "java/util/TreeMap$Entry", (Or.inl q796), (Or.inl rfl)⟩, ⟨tg18, Nat.le_of_ble_eq_true rfl, Or.inl rfl⟩, isR_O⟩, trivial⟩
theorem pf_J19_19i {nm : String} : Fl2 (fun t k => FLs "java/util/TreeMap$Entry" 19 t k ∧ FPs "java/util/TreeMap$Entry" nm 19 t k ∧ isR (cTy t k)) [(18, 1)] := ⟨⟨⟨rfl, Nat.le_of_ble_eq_true rfl, "java/util/TreeMap$Entry", (Or.inl q798), (Or.inl rfl)⟩, ⟨tg18, Nat.le_of_ble_eq_true rfl, Or.inl rfl⟩, isR_O⟩, trivial⟩
theorem pf_J19_22i {nm : String} : Fl2 (fun t k => FLs "java/util/TreeMap$Entry" 22 t k ∧ FPs "java/util/TreeMap$Entry" nm 22 t k ∧ isR (cTy t k)) [(18, 4)] := ⟨⟨⟨rfl, Nat.le_of_ble_eq_true rfl, "java/util/TreeMap$Entry", (Or.inl q802), (Or.inl rfl)⟩, ⟨tg18, Nat.le_of_ble_eq_true rfl, Or.inl rfl⟩, isR_O⟩, trivial⟩
theorem gf_J26_7 : Fl2 (fun t k => FLs "java/util/ImmutableCollections$ListN" 7 t k ∧ ∀ (G : Hp) (a : Nat), fval G a k (cTy t k) = rdR G a k) [(19, 0)] := ⟨⟨⟨rfl, Nat.le_of_ble_eq_true rfl, "java/util/ImmutableCollections$ListN", (Or.inl q1212), (Or.inl rfl)⟩, fun _ _ => rfl⟩, trivial⟩
theorem pf_J26_7i : Fl2 (fun t k => FLs "java/util/ImmutableCollections$ListN" 7 t k ∧ FPs "java/util/ImmutableCollections$ListN" "<init>" 7 t k ∧ isR (cTy t k)) [(19, 0)] := ⟨⟨⟨rfl, Nat.le_of_ble_eq_true rfl, "java/util/ImmutableCollections$ListN", (Or.inl q1212), (Or.inl rfl)⟩, ⟨tg19, Nat.le_of_ble_eq_true rfl, Or.inr ⟨rfl, rfl, q1212⟩⟩, isR_A⟩, trivial⟩
theorem pf_J26_13i : Fl2 (fun t k => FLs "java/util/ImmutableCollections$ListN" 13 t k ∧ FPs "java/util/ImmutableCollections$ListN" "<init>" 13 t k ∧ isI (cTy t k) okZ) [(19, 1)] := ⟨⟨⟨rfl, Nat.le_of_ble_eq_true rfl, "java/util/ImmutableCollections$ListN", (Or.inl q1213), (Or.inl rfl)⟩, ⟨tg19, Nat.le_of_ble_eq_true rfl, Or.inr ⟨rfl, rfl, q1213⟩⟩, isI_Z⟩, trivial⟩
theorem gf_J26_13 : Fl2 (fun t k => FLs "java/util/ImmutableCollections$ListN" 13 t k ∧ ∀ (G : Hp) (a : Nat), fval G a k (cTy t k) = rdI G a k) [(19, 1)] := ⟨⟨⟨rfl, Nat.le_of_ble_eq_true rfl, "java/util/ImmutableCollections$ListN", (Or.inl q1213), (Or.inl rfl)⟩, fun _ _ => rfl⟩, trivial⟩
theorem pf_J27_7i {nm : String} : Fl2 (fun t k => FLs "java/util/BitSet" 7 t k ∧ FPs "java/util/BitSet" nm 7 t k ∧ isI (cTy t k) okI) [(20, 1)] := ⟨⟨⟨rfl, Nat.le_of_ble_eq_true rfl, "java/util/BitSet", (Or.inl q1235), (Or.inl rfl)⟩, ⟨tg20, Nat.le_of_ble_eq_true rfl, Or.inl rfl⟩, isI_I⟩, trivial⟩
theorem pf_J27_24i {nm : String} : Fl2 (fun t k => FLs "java/util/BitSet" 24 t k ∧ FPs "java/util/BitSet" nm 24 t k ∧ isI (cTy t k) okZ) [(20, 2)] := ⟨⟨⟨rfl, Nat.le_of_ble_eq_true rfl, "java/util/BitSet", (Or.inl q1236), (Or.inl rfl)⟩, ⟨tg20, Nat.le_of_ble_eq_true rfl, Or.inl rfl⟩, isI_Z⟩, trivial⟩
theorem pf_J27_11 {nm : String} : Fl2 (fun t k => FLs "java/util/BitSet" 11 t k ∧ FPs "java/util/BitSet" nm 11 t k ∧ isR (cTy t k)) [(20, 0)] := ⟨⟨⟨rfl, Nat.le_of_ble_eq_true rfl, "java/util/BitSet", (Or.inl q1234), (Or.inl rfl)⟩, ⟨tg20, Nat.le_of_ble_eq_true rfl, Or.inl rfl⟩, isR_A⟩, trivial⟩
theorem gf_J27_7 : Fl2 (fun t k => FLs "java/util/BitSet" 7 t k ∧ ∀ (G : Hp) (a : Nat), fval G a k (cTy t k) = rdI G a k) [(20, 1)] := ⟨⟨⟨rfl, Nat.le_of_ble_eq_true rfl, "java/util/BitSet", (Or.inl q1235), (Or.inl rfl)⟩, fun _ _ => rfl⟩, trivial⟩
theorem gf_J27_11 : Fl2 (fun t k => FLs "java/util/BitSet" 11 t k ∧ ∀ (G : Hp) (a : Nat), fval G a k (cTy t k) = rdR G a k) [(20, 0)] := ⟨⟨⟨rfl, Nat.le_of_ble_eq_true rfl, "java/util/BitSet", (Or.inl q1234), (Or.inl rfl)⟩, fun _ _ => rfl⟩, trivial⟩
theorem pf_J27_7 {nm : String} : Fl2 (fun t k => FLs "java/util/BitSet" 7 t k ∧ FPs "java/util/BitSet" nm 7 t k ∧ isI (cTy t k) okI) [(20, 1)] := ⟨⟨⟨rfl, Nat.le_of_ble_eq_true rfl, "java/util/BitSet", (Or.inl q1235), (Or.inl rfl)⟩, ⟨tg20, Nat.le_of_ble_eq_true rfl, Or.inl rfl⟩, isI_I⟩, trivial⟩
theorem pf_J27_24 {nm : String} : Fl2 (fun t k => FLs "java/util/BitSet" 24 t k ∧ FPs "java/util/BitSet" nm 24 t k ∧ isI (cTy t k) okZ) [(20, 2)] := ⟨⟨⟨rfl, Nat.le_of_ble_eq_true rfl, "java/util/BitSet", (Or.inl q1236), (Or.inl rfl)⟩, ⟨tg20, Nat.le_of_ble_eq_true rfl, Or.inl rfl⟩, isI_Z⟩, trivial⟩
theorem pf_J28_7i {nm : String} : Fl2 (fun t k => FLs "java/lang/Throwable" 7 t k ∧ FPs "java/lang/Throwable" nm 7 t k ∧ isR (cTy t k)) [(10, 0)] := ⟨⟨⟨rfl, Nat.le_of_ble_eq_true rfl, "java/lang/Throwable", (Or.inl q1482), (Or.inl rfl)⟩, ⟨tg10, Nat.le_of_ble_eq_true rfl, Or.inl rfl⟩, isR_O⟩, trivial⟩
theorem pf_J28_17i {nm : String} : Fl2 (fun t k => FLs "java/lang/Throwable" 17 t k ∧ FPs "java/lang/Throwable" nm 17 t k ∧ isR (cTy t k)) [(10, 1)] := ⟨⟨⟨rfl, Nat.le_of_ble_eq_true rfl, "java/lang/Throwable", (Or.inl q1483), (Or.inl rfl)⟩, ⟨tg10, Nat.le_of_ble_eq_true rfl, Or.inl rfl⟩, isR_A⟩, trivial⟩
theorem pf_J28_24i {nm : String} : Fl2 (fun t k => FLs "java/lang/Throwable" 24 t k ∧ FPs "java/lang/Throwable" nm 24 t k ∧ isR (cTy t k)) [(10, 2)] := ⟨⟨⟨rfl, Nat.le_of_ble_eq_true rfl, "java/lang/Throwable", (Or.inl q1484), (Or.inl rfl)⟩, ⟨tg10, Nat.le_of_ble_eq_true rfl, Or.inl rfl⟩, isR_O⟩, trivial⟩
theorem pf_J28_31i {nm : String} : Fl2 (fun t k => FLs "java/lang/Throwable" 31 t k ∧ FPs "java/lang/Throwable" nm 31 t k ∧ isR (cTy t k)) [(10, 3)] := ⟨⟨⟨rfl, Nat.le_of_ble_eq_true rfl, "java/lang/Throwable", (Or.inl q1481), (Or.inl rfl)⟩, ⟨tg10, Nat.le_of_ble_eq_true rfl, Or.inl rfl⟩, isR_O⟩, trivial⟩
theorem pf_J34_1i : Fl2 (fun t k => FLs "java/util/ArrayList$Itr" 1 t k ∧ FPs "java/util/ArrayList$Itr" "<init>" 1 t k ∧ isR (cTy t k)) [(21, 3)] := ⟨⟨⟨rfl, Nat.le_of_ble_eq_true rfl, "java/util/ArrayList$Itr", (Or.inl q2285), (Or.inl rfl)⟩, ⟨tg21, Nat.le_of_ble_eq_true rfl, Or.inr ⟨rfl, rfl, q2285⟩⟩, isR_O⟩, trivial⟩
theorem pf_J34_13i {nm : String} : Fl2 (fun t k => FLs "java/util/ArrayList$Itr" 13 t k ∧ FPs "java/util/ArrayList$Itr" nm 13 t k ∧ isI (cTy t k) okI) [(21, 1)] := ⟨⟨⟨rfl, Nat.le_of_ble_eq_true rfl, "java/util/ArrayList$Itr", (Or.inl q2283), (Or.inl rfl)⟩, ⟨tg21, Nat.le_of_ble_eq_true rfl, Or.inl rfl⟩, isI_I⟩, trivial⟩
theorem gf_J34_1 : Fl2 (fun t k => FLs "java/util/ArrayList$Itr" 1 t k ∧ ∀ (G : Hp) (a : Nat), fval G a k (cTy t k) = rdR G a k) [(21, 3)] := ⟨⟨⟨rfl, Nat.le_of_ble_eq_true rfl, "java/util/ArrayList$Itr", (Or.inl q2285), (Or.inl rfl)⟩, fun _ _ => rfl⟩, trivial⟩
theorem gf_J34_17 : Fl2 (fun t k => FLs "java/util/ArrayList$Itr" 17 t k ∧ ∀ (G : Hp) (a : Nat), fval G a k (cTy t k) = rdI G a k) [(13, 0)] := ⟨⟨⟨rfl, Nat.le_of_ble_eq_true rfl, "java/util/ArrayList", (Or.inl q225), (Or.inr q226)⟩, fun _ _ => rfl⟩, trivial⟩
theorem pf_J34_22i {nm : String} : Fl2 (fun t k => FLs "java/util/ArrayList$Itr" 22 t k ∧ FPs "java/util/ArrayList$Itr" nm 22 t k ∧ isI (cTy t k) okI) [(21, 2)] := ⟨⟨⟨rfl, Nat.le_of_ble_eq_true rfl, "java/util/ArrayList$Itr", (Or.inl q2284), (Or.inl rfl)⟩, ⟨tg21, Nat.le_of_ble_eq_true rfl, Or.inl rfl⟩, isI_I⟩, trivial⟩
theorem gf_J34_25 : Fl2 (fun t k => FLs "java/util/ArrayList$Itr" 25 t k ∧ ∀ (G : Hp) (a : Nat), fval G a k (cTy t k) = rdI G a k) [(21, 0)] := ⟨⟨⟨rfl, Nat.le_of_ble_eq_true rfl, "java/util/ArrayList$Itr", (Or.inl q2282), (Or.inl rfl)⟩, fun _ _ => rfl⟩, trivial⟩
theorem gf_J34_28 : Fl2 (fun t k => FLs "java/util/ArrayList$Itr" 28 t k ∧ ∀ (G : Hp) (a : Nat), fval G a k (cTy t k) = rdI G a k) [(13, 2)] := ⟨⟨⟨rfl, Nat.le_of_ble_eq_true rfl, "java/util/ArrayList", (Or.inr ⟨_, List.mem_of_getElem? (i := 0) rfl⟩), (Or.inl rfl)⟩, fun _ _ => rfl⟩, trivial⟩
theorem gf_J34_37 : Fl2 (fun t k => FLs "java/util/ArrayList$Itr" 37 t k ∧ ∀ (G : Hp) (a : Nat), fval G a k (cTy t k) = rdR G a k) [(13, 1)] := ⟨⟨⟨rfl, Nat.le_of_ble_eq_true rfl, "java/util/ArrayList", (Or.inl q221), (Or.inl rfl)⟩, fun _ _ => rfl⟩, trivial⟩
theorem pf_J34_25 {nm : String} : Fl2 (fun t k => FLs "java/util/ArrayList$Itr" 25 t k ∧ FPs "java/util/ArrayList$Itr" nm 25 t k ∧ isI (cTy t k) okI) [(21, 0)] := ⟨⟨⟨rfl, Nat.le_of_ble_eq_true rfl, "java/util/ArrayList$Itr", (Or.inl q2282), (Or.inl rfl)⟩, ⟨tg21, Nat.le_of_ble_eq_true rfl, Or.inl rfl⟩, isI_I⟩, trivial⟩
theorem pf_J34_13 {nm : String} : Fl2 (fun t k => FLs "java/util/ArrayList$Itr" 13 t k ∧ FPs "java/util/ArrayList$Itr" nm 13 t k ∧ isI (cTy t k) okI) [(21, 1)] := ⟨⟨⟨rfl, Nat.le_of_ble_eq_true rfl, "java/util/ArrayList$Itr", (Or.inl q2283), (Or.inl rfl)⟩, ⟨tg21, Nat.le_of_ble_eq_true rfl, Or.inl rfl⟩, isI_I⟩, trivial⟩
theorem gf_J34_22 : Fl2 (fun t k => FLs "java/util/ArrayList$Itr" 22 t k ∧ ∀ (G : Hp) (a : Nat), fval G a k (cTy t k) = rdI G a k) [(21, 2)] := ⟨⟨⟨rfl, Nat.le_of_ble_eq_true rfl, "java/util/ArrayList$Itr", (Or.inl q2284), (Or.inl rfl)⟩, fun _ _ => rfl⟩, trivial⟩
theorem gf_J38_17 : Fl2 (fun t k => FLs "java/util/PriorityQueue" 17 t k ∧ ∀ (G : Hp) (a : Nat), fval G a k (cTy t k) = rdR G a k) [(22, 0)] := ⟨⟨⟨rfl, Nat.le_of_ble_eq_true rfl, "java/util/PriorityQueue", (Or.inl q2463), (Or.inl rfl)⟩, fun _ _ => rfl⟩, trivial⟩
theorem gf_J38_58 : Fl2 (fun t k => FLs "java/util/PriorityQueue" 58 t k ∧ ∀ (G : Hp) (a : Nat), fval G a k (cTy t k) = rdI G a k) [(22, 1)] := ⟨⟨⟨rfl, Nat.le_of_ble_eq_true rfl, "java/util/PriorityQueue", (Or.inl q2464), (Or.inl rfl)⟩, fun _ _ => rfl⟩, trivial⟩
theorem pf_J38_17i {nm : String} : Fl2 (fun t k => FLs "java/util/PriorityQueue" 17 t k ∧ FPs "java/util/PriorityQueue" nm 17 t k ∧ isR (cTy t k)) [(22, 0)] := ⟨⟨⟨rfl, Nat.le_of_ble_eq_true rfl, "java/util/PriorityQueue", (Or.inl q2463), (Or.inl rfl)⟩, ⟨tg22, Nat.le_of_ble_eq_true rfl, Or.inl rfl⟩, isR_A⟩, trivial⟩
theorem pf_J38_21i : Fl2 (fun t k => FLs "java/util/PriorityQueue" 21 t k ∧ FPs "java/util/PriorityQueue" "<init>" 21 t k ∧ isR (cTy t k)) [(22, 2)] := ⟨⟨⟨rfl, Nat.le_of_ble_eq_true rfl, "java/util/PriorityQueue", (Or.inl q2465), (Or.inl rfl)⟩, ⟨tg22, Nat.le_of_ble_eq_true rfl, Or.inr ⟨rfl, rfl, q2465⟩⟩, isR_O⟩, trivial⟩
theorem gf_J38_93 : Fl2 (fun t k => FLs "java/util/PriorityQueue" 93 t k ∧ ∀ (G : Hp) (a : Nat), fval G a k (cTy t k) = rdI G a k) [(22, 3)] := ⟨⟨⟨rfl, Nat.le_of_ble_eq_true rfl, "java/util/PriorityQueue", (Or.inl q2466), (Or.inl rfl)⟩, fun _ _ => rfl⟩, trivial⟩
theorem pf_J38_93 {nm : String} : Fl2 (fun t k => FLs "java/util/PriorityQueue" 93 t k ∧ FPs "java/util/PriorityQueue" nm 93 t k ∧ isI (cTy t k) okI) [(22, 3)] := ⟨⟨⟨rfl, Nat.le_of_ble_eq_true rfl, "java/util/PriorityQueue", (Or.inl q2466), (Or.inl rfl)⟩, ⟨tg22, Nat.le_of_ble_eq_true rfl, Or.inl rfl⟩, isI_I⟩, trivial⟩
theorem pf_J38_58 {nm : String} : Fl2 (fun t k => FLs "java/util/PriorityQueue" 58 t k ∧ FPs "java/util/PriorityQueue" nm 58 t k ∧ isI (cTy t k) okI) [(22, 1)] := ⟨⟨⟨rfl, Nat.le_of_ble_eq_true rfl, "java/util/PriorityQueue", (Or.inl q2464), (Or.inl rfl)⟩, ⟨tg22, Nat.le_of_ble_eq_true rfl, Or.inl rfl⟩, isI_I⟩, trivial⟩
theorem pf_J38_17 {nm : String} : Fl2 (fun t k => FLs "java/util/PriorityQueue" 17 t k ∧ FPs "java/util/PriorityQueue" nm 17 t k ∧ isR (cTy t k)) [(22, 0)] := ⟨⟨⟨rfl, Nat.le_of_ble_eq_true rfl, "java/util/PriorityQueue", (Or.inl q2463), (Or.inl rfl)⟩, ⟨tg22, Nat.le_of_ble_eq_true rfl, Or.inl rfl⟩, isR_A⟩, trivial⟩
theorem gf_J38_21 : Fl2 (fun t k => FLs "java/util/PriorityQueue" 21 t k ∧ ∀ (G : Hp) (a : Nat), fval G a k (cTy t k) = rdR G a k) [(22, 2)] := ⟨⟨⟨rfl, Nat.le_of_ble_eq_true rfl, "java/util/PriorityQueue", (Or.inl q2465), (Or.inl rfl)⟩, fun _ _ => rfl⟩, trivial⟩
theorem cast_0 : Fl1 (CPs "java/lang/Integer") [17] := ⟨⟨by decide, "java/lang/Integer", fun _ => rfl, fun h => absurd h (by decide), Or.inl rfl⟩, trivial⟩
theorem cast_1 : Fl1 (CPs "java/lang/String") [15] := ⟨⟨by decide, "java/lang/String", fun _ => rfl, fun h => absurd h (by decide), Or.inl rfl⟩, trivial⟩
theorem cast_2 : Fl1 (CPs "BallotBus$Request") [11] := ⟨⟨by decide, "BallotBus$Request", fun _ => rfl, fun h => absurd h (by decide), Or.inl rfl⟩, trivial⟩
theorem cast_3 : Fl1 (CPs "BallotBus$Bus") [6] := ⟨⟨by decide, "BallotBus$Bus", fun _ => rfl, fun h => absurd h (by decide), Or.inl rfl⟩, trivial⟩
theorem cast_4 : Fl1 (CPs "[LBallotBus$Tally;") [112] := ⟨⟨by decide, "[LBallotBus$Tally;", fun h => absurd h (by decide), fun _ => rfl, Or.inl rfl⟩, trivial⟩
theorem cast_5 : Fl1 (CPs "java/lang/Enum") [2, 3, 4] := ⟨⟨by decide, "BallotBus$Tally$1", fun _ => rfl, fun h => absurd h (by decide), Or.inr (List.mem_of_getElem? (i := 14) rfl)⟩, ⟨⟨by decide, "BallotBus$Tally$2", fun _ => rfl, fun h => absurd h (by decide), Or.inr (List.mem_of_getElem? (i := 18) rfl)⟩, ⟨⟨by decide, "BallotBus$Tally$3", fun _ => rfl, fun h => absurd h (by decide), Or.inr (List.mem_of_getElem? (i := 22) rfl)⟩, trivial⟩⟩⟩
theorem cast_6 : Fl1 (CPs "java/lang/StringBuilder") [14] := ⟨⟨by decide, "java/lang/StringBuilder", fun _ => rfl, fun h => absurd h (by decide), Or.inl rfl⟩, trivial⟩
theorem cast_7 : Fl1 (CPs "java/lang/Comparable") [2, 3, 4, 14, 15, 17] := ⟨⟨by decide, "BallotBus$Tally$1", fun _ => rfl, fun h => absurd h (by decide), Or.inr (List.mem_of_getElem? (i := 13) rfl)⟩, ⟨⟨by decide, "BallotBus$Tally$2", fun _ => rfl, fun h => absurd h (by decide), Or.inr (List.mem_of_getElem? (i := 17) rfl)⟩, ⟨⟨by decide, "BallotBus$Tally$3", fun _ => rfl, fun h => absurd h (by decide), Or.inr (List.mem_of_getElem? (i := 21) rfl)⟩, ⟨⟨by decide, "java/lang/StringBuilder", fun _ => rfl, fun h => absurd h (by decide), Or.inr (List.mem_of_getElem? (i := 49) rfl)⟩, ⟨⟨by decide, "java/lang/String", fun _ => rfl, fun h => absurd h (by decide), Or.inr (List.mem_of_getElem? (i := 47) rfl)⟩, ⟨⟨by decide, "java/lang/Integer", fun _ => rfl, fun h => absurd h (by decide), Or.inr (List.mem_of_getElem? (i := 45) rfl)⟩, trivial⟩⟩⟩⟩⟩⟩
theorem cast_8 : Fl1 (CPs "[B") [102] := ⟨⟨by decide, "[B", fun h => absurd h (by decide), fun _ => rfl, Or.inl rfl⟩, trivial⟩
theorem cast_9 : Fl1 (CPs "[C") [105] := ⟨⟨by decide, "[C", fun h => absurd h (by decide), fun _ => rfl, Or.inl rfl⟩, trivial⟩
theorem cast_10 : Fl1 (CPs "[I") [100] := ⟨⟨by decide, "[I", fun h => absurd h (by decide), fun _ => rfl, Or.inl rfl⟩, trivial⟩
theorem cast_11 : Fl1 (CPs "[Ljava/lang/Object;") [110] := ⟨⟨by decide, "[Ljava/lang/Object;", fun h => absurd h (by decide), fun _ => rfl, Or.inl rfl⟩, trivial⟩
theorem cast_12 : Fl1 (CPs "[J") [101] := ⟨⟨by decide, "[J", fun h => absurd h (by decide), fun _ => rfl, Or.inl rfl⟩, trivial⟩
theorem vc_X0_131 : Fl2 (VC PP ynT ybT yrT yhT "BallotBusLaw" 131 5) [(1, 36)] := ⟨⟨rfl, ce36, q1129, Or.inl ⟨(Or.inl q1128), q1130, ar36⟩⟩, trivial⟩
theorem vc_X0_135 : Fl2 (VC PP ynT ybT yrT yhT "BallotBusLaw" 135 5) [(8, 251)] := ⟨⟨rfl, ce251, q3396, Or.inl ⟨(Or.inl q3395), q3397, ar251⟩⟩, trivial⟩
theorem vc_X0_136 : Fl2 (VC PP ynT ybT yrT yhT "BallotBusLaw" 136 1) [(1, 38)] := ⟨⟨rfl, ce38, q1137, Or.inl ⟨(Or.inl q1136), q1138, ar38⟩⟩, trivial⟩
theorem vc_X0_139 : Fl2 (VC PP ynT ybT yrT yhT "BallotBusLaw" 139 1) [(8, 252)] := ⟨⟨rfl, ce252, q3400, Or.inl ⟨(Or.inl q3399), q3401, ar252⟩⟩, trivial⟩
theorem vc_X0_140 : Fl2 (VC PP ynT ybT yrT yhT "BallotBusLaw" 140 0) [(1, 40)] := ⟨⟨rfl, ce40, q1144, Or.inl ⟨(Or.inl q1143), q1145, ar40⟩⟩, trivial⟩
theorem vc_X0_143 : Fl2 (VC PP ynT ybT yrT yhT "BallotBusLaw" 143 0) [(8, 253)] := ⟨⟨rfl, ce253, q3404, Or.inl ⟨(Or.inl q3403), q3405, ar253⟩⟩, trivial⟩
theorem vc_X0_144 : Fl2 (VC PP ynT ybT yrT yhT "BallotBusLaw" 144 0) [(1, 41)] := ⟨⟨rfl, ce41, q1908, Or.inl ⟨(Or.inl q1907), q1909, ar41⟩⟩, trivial⟩
theorem vc_X0_147 : Fl2 (VC PP ynT ybT yrT yhT "BallotBusLaw" 147 0) [(8, 274)] := ⟨⟨rfl, ce274, q3510, Or.inl ⟨(Or.inl q3509), q3511, ar274⟩⟩, trivial⟩
theorem vc_X0_148 : Fl2 (VC PP ynT ybT yrT yhT "BallotBusLaw" 148 0) [(1, 42)] := ⟨⟨rfl, ce42, q1912, Or.inl ⟨(Or.inl q1911), q1913, ar42⟩⟩, trivial⟩
theorem vc_X0_151 : Fl2 (VC PP ynT ybT yrT yhT "BallotBusLaw" 151 0) [(8, 275)] := ⟨⟨rfl, ce275, q3514, Or.inl ⟨(Or.inl q3513), q3515, ar275⟩⟩, trivial⟩
theorem vc_X0_152 : Fl2 (VC PP ynT ybT yrT yhT "BallotBusLaw" 152 1) [(1, 43)] := ⟨⟨rfl, ce43, q1916, Or.inl ⟨(Or.inl q1915), q1917, ar43⟩⟩, trivial⟩
theorem vc_X0_155 : Fl2 (VC PP ynT ybT yrT yhT "BallotBusLaw" 155 1) [(8, 206)] := ⟨⟨rfl, ce206, q3211, Or.inl ⟨(Or.inl q3210), q3212, ar206⟩⟩, trivial⟩
theorem vc_X0_156 : Fl2 (VC PP ynT ybT yrT yhT "BallotBusLaw" 156 1) [(1, 45)] := ⟨⟨rfl, ce45, q1935, Or.inl ⟨(Or.inl q1934), q1936, ar45⟩⟩, trivial⟩
theorem vc_X0_160 : Fl2 (VC PP ynT ybT yrT yhT "BallotBusLaw" 160 1) [(8, 276)] := ⟨⟨rfl, ce276, q3518, Or.inl ⟨(Or.inl q3517), q3519, ar276⟩⟩, trivial⟩
theorem vc_X0_166 : Fl2 (VC PP ynT ybT yrT yhT "BallotBusLaw" 166 2) [(8, 208)] := ⟨⟨rfl, ce208, q3219, Or.inl ⟨(Or.inl q3218), q3220, ar208⟩⟩, trivial⟩
theorem vc_X0_167 : Fl2 (VC PP ynT ybT yrT yhT "BallotBusLaw" 167 0) [(8, 147)] := ⟨⟨rfl, ce147, q2977, Or.inl ⟨(Or.inl q2976), q2978, ar147⟩⟩, trivial⟩
theorem vc_X0_172 : Fl2 (VC PP ynT ybT yrT yhT "BallotBusLaw" 172 2) [(8, 210)] := ⟨⟨rfl, ce210, q3228, Or.inl ⟨(Or.inl q3227), q3229, ar210⟩⟩, trivial⟩
theorem vc_X0_175 : Fl2 (VC PP ynT ybT yrT yhT "BallotBusLaw" 175 2) [(8, 214)] := ⟨⟨rfl, ce214, q3245, Or.inl ⟨(Or.inl q3244), q3246, ar214⟩⟩, trivial⟩
theorem vc_X0_179 : Fl2 (VC PP ynT ybT yrT yhT "BallotBusLaw" 179 1) [(8, 215)] := ⟨⟨rfl, ce215, q3249, Or.inl ⟨(Or.inl q3248), q3250, ar215⟩⟩, trivial⟩
theorem vc_X0_182 : Fl2 (VC PP ynT ybT yrT yhT "BallotBusLaw" 182 2) [(8, 216)] := ⟨⟨rfl, ce216, q3253, Or.inl ⟨(Or.inl q3252), q3254, ar216⟩⟩, trivial⟩
theorem vc_X0_185 : Fl2 (VC PP ynT ybT yrT yhT "BallotBusLaw" 185 2) [(8, 217)] := ⟨⟨rfl, ce217, q3258, Or.inl ⟨(Or.inl q3257), q3259, ar217⟩⟩, trivial⟩
theorem vc_X0_186 : Fl2 (VC PP ynT ybT yrT yhT "BallotBusLaw" 186 0) [(1, 46)] := ⟨⟨rfl, ce46, q1944, Or.inl ⟨(Or.inl q1943), q1945, ar46⟩⟩, trivial⟩
theorem vc_X0_189 : Fl2 (VC PP ynT ybT yrT yhT "BallotBusLaw" 189 0) [(8, 218)] := ⟨⟨rfl, ce218, q3262, Or.inl ⟨(Or.inl q3261), q3263, ar218⟩⟩, trivial⟩
theorem vc_X0_192 : Fl2 (VC PP ynT ybT yrT yhT "BallotBusLaw" 192 2) [(8, 219)] := ⟨⟨rfl, ce219, q3266, Or.inl ⟨(Or.inl q3265), q3267, ar219⟩⟩, trivial⟩
theorem vc_X0_195 : Fl2 (VC PP ynT ybT yrT yhT "BallotBusLaw" 195 1) [(8, 220)] := ⟨⟨rfl, ce220, q3271, Or.inl ⟨(Or.inl q3270), q3272, ar220⟩⟩, trivial⟩
theorem vc_X0_198 : Fl2 (VC PP ynT ybT yrT yhT "BallotBusLaw" 198 2) [(8, 221)] := ⟨⟨rfl, ce221, q3275, Or.inl ⟨(Or.inl q3274), q3276, ar221⟩⟩, trivial⟩
theorem vc_X0_201 : Fl2 (VC PP ynT ybT yrT yhT "BallotBusLaw" 201 2) [(8, 222)] := ⟨⟨rfl, ce222, q3279, Or.inl ⟨(Or.inl q3278), q3280, ar222⟩⟩, trivial⟩
theorem vc_X0_204 : Fl2 (VC PP ynT ybT yrT yhT "BallotBusLaw" 204 1) [(8, 223)] := ⟨⟨rfl, ce223, q3283, Or.inl ⟨(Or.inl q3282), q3284, ar223⟩⟩, trivial⟩
theorem vc_X0_205 : Fl2 (VC PP ynT ybT yrT yhT "BallotBusLaw" 205 0) [(1, 47)] := ⟨⟨rfl, ce47, q1948, Or.inl ⟨(Or.inl q1947), q1949, ar47⟩⟩, trivial⟩
theorem vc_X0_208 : Fl2 (VC PP ynT ybT yrT yhT "BallotBusLaw" 208 0) [(8, 224)] := ⟨⟨rfl, ce224, q3287, Or.inl ⟨(Or.inl q3286), q3288, ar224⟩⟩, trivial⟩
theorem vc_X0_211 : Fl2 (VC PP ynT ybT yrT yhT "BallotBusLaw" 211 2) [(8, 225)] := ⟨⟨rfl, ce225, q3291, Or.inl ⟨(Or.inl q3290), q3292, ar225⟩⟩, trivial⟩
theorem vc_X0_214 : Fl2 (VC PP ynT ybT yrT yhT "BallotBusLaw" 214 1) [(8, 229)] := ⟨⟨rfl, ce229, q3307, Or.inl ⟨(Or.inl q3306), q3308, ar229⟩⟩, trivial⟩
theorem vc_X0_215 : Fl2 (VC PP ynT ybT yrT yhT "BallotBusLaw" 215 0) [(1, 48)] := ⟨⟨rfl, ce48, q1977, Or.inl ⟨(Or.inl q1976), q1978, ar48⟩⟩, trivial⟩
theorem vc_X0_218 : Fl2 (VC PP ynT ybT yrT yhT "BallotBusLaw" 218 0) [(8, 226)] := ⟨⟨rfl, ce226, q3295, Or.inl ⟨(Or.inl q3294), q3296, ar226⟩⟩, trivial⟩
theorem vc_X0_221 : Fl2 (VC PP ynT ybT yrT yhT "BallotBusLaw" 221 2) [(8, 227)] := ⟨⟨rfl, ce227, q3299, Or.inl ⟨(Or.inl q3298), q3300, ar227⟩⟩, trivial⟩
theorem vc_X0_224 : Fl2 (VC PP ynT ybT yrT yhT "BallotBusLaw" 224 1) [(8, 230)] := ⟨⟨rfl, ce230, q3311, Or.inl ⟨(Or.inl q3310), q3312, ar230⟩⟩, trivial⟩
theorem vc_X0_227 : Fl2 (VC PP ynT ybT yrT yhT "BallotBusLaw" 227 1) [(8, 232)] := ⟨⟨rfl, ce232, q3319, Or.inl ⟨(Or.inl q3318), q3320, ar232⟩⟩, trivial⟩
theorem vc_X0_231 : Fl2 (VC PP ynT ybT yrT yhT "BallotBusLaw" 231 1) [(8, 235)] := ⟨⟨rfl, ce235, q3331, Or.inl ⟨(Or.inl q3330), q3332, ar235⟩⟩, trivial⟩
theorem vc_X0_234 : Fl2 (VC PP ynT ybT yrT yhT "BallotBusLaw" 234 1) [(8, 236)] := ⟨⟨rfl, ce236, q3335, Or.inl ⟨(Or.inl q3334), q3336, ar236⟩⟩, trivial⟩
theorem vc_X0_235 : Fl2 (VC PP ynT ybT yrT yhT "BallotBusLaw" 235 0) [(1, 49)] := ⟨⟨rfl, ce49, q1982, Or.inl ⟨(Or.inl q1981), q1983, ar49⟩⟩, trivial⟩
theorem vc_X0_238 : Fl2 (VC PP ynT ybT yrT yhT "BallotBusLaw" 238 0) [(8, 237)] := ⟨⟨rfl, ce237, q3339, Or.inl ⟨(Or.inl q3338), q3340, ar237⟩⟩, trivial⟩
theorem vc_X0_239 : Fl2 (VC PP ynT ybT yrT yhT "BallotBusLaw" 239 0) [(1, 50)] := ⟨⟨rfl, ce50, q1986, Or.inl ⟨(Or.inl q1985), q1987, ar50⟩⟩, trivial⟩
theorem vc_X0_242 : Fl2 (VC PP ynT ybT yrT yhT "BallotBusLaw" 242 0) [(8, 238)] := ⟨⟨rfl, ce238, q3343, Or.inl ⟨(Or.inl q3342), q3344, ar238⟩⟩, trivial⟩
theorem vc_X0_245 : Fl2 (VC PP ynT ybT yrT yhT "BallotBusLaw" 245 1) [(8, 152)] := ⟨⟨rfl, ce152, q2997, Or.inl ⟨(Or.inl q2996), q2998, ar152⟩⟩, trivial⟩
theorem vc_X0_249 : Fl2 (VC PP ynT ybT yrT yhT "BallotBusLaw" 249 3) [(8, 187)] := ⟨⟨rfl, ce187, q3134, Or.inl ⟨(Or.inl q3133), q3135, ar187⟩⟩, trivial⟩
theorem vc_X0_252 : Fl2 (VC PP ynT ybT yrT yhT "BallotBusLaw" 252 1) [(8, 192)] := ⟨⟨rfl, ce192, q3155, Or.inl ⟨(Or.inl q3154), q3156, ar192⟩⟩, trivial⟩
theorem vc_X0_255 : Fl2 (VC PP ynT ybT yrT yhT "BallotBusLaw" 255 1) [(8, 193)] := ⟨⟨rfl, ce193, q3159, Or.inl ⟨(Or.inl q3158), q3160, ar193⟩⟩, trivial⟩
theorem vc_X0_258 : Fl2 (VC PP ynT ybT yrT yhT "BallotBusLaw" 258 2) [(8, 196)] := ⟨⟨rfl, ce196, q3171, Or.inl ⟨(Or.inl q3170), q3172, ar196⟩⟩, trivial⟩
theorem vc_X0_261 : Fl2 (VC PP ynT ybT yrT yhT "BallotBusLaw" 261 1) [(8, 201)] := ⟨⟨rfl, ce201, q3190, Or.inl ⟨(Or.inl q3189), q3191, ar201⟩⟩, trivial⟩
theorem vc_X0_264 : Fl2 (VC PP ynT ybT yrT yhT "BallotBusLaw" 264 1) [(8, 202)] := ⟨⟨rfl, ce202, q3194, Or.inl ⟨(Or.inl q3193), q3195, ar202⟩⟩, trivial⟩
theorem vc_X0_267 : Fl2 (VC PP ynT ybT yrT yhT "BallotBusLaw" 267 2) [(8, 205)] := ⟨⟨rfl, ce205, q3206, Or.inl ⟨(Or.inl q3205), q3207, ar205⟩⟩, trivial⟩
theorem vc_X0_271 : Fl2 (VC PP ynT ybT yrT yhT "BallotBusLaw" 271 0) [(8, 148)] := ⟨⟨rfl, ce148, q2981, Or.inl ⟨(Or.inl q2980), q2982, ar148⟩⟩, trivial⟩
theorem vc_X0_274 : Fl2 (VC PP ynT ybT yrT yhT "BallotBusLaw" 274 2) [(8, 240)] := ⟨⟨rfl, ce240, q3351, Or.inl ⟨(Or.inl q3350), q3352, ar240⟩⟩, trivial⟩
theorem vc_X0_277 : Fl2 (VC PP ynT ybT yrT yhT "BallotBusLaw" 277 2) [(8, 243)] := ⟨⟨rfl, ce243, q3363, Or.inl ⟨(Or.inl q3362), q3364, ar243⟩⟩, trivial⟩
theorem vc_X0_280 : Fl2 (VC PP ynT ybT yrT yhT "BallotBusLaw" 280 2) [(8, 245)] := ⟨⟨rfl, ce245, q3371, Or.inl ⟨(Or.inl q3370), q3372, ar245⟩⟩, trivial⟩
theorem vc_X0_283 : Fl2 (VC PP ynT ybT yrT yhT "BallotBusLaw" 283 1) [(8, 247)] := ⟨⟨rfl, ce247, q3379, Or.inl ⟨(Or.inl q3378), q3380, ar247⟩⟩, trivial⟩
theorem vc_X0_286 : Fl2 (VC PP ynT ybT yrT yhT "BallotBusLaw" 286 1) [(8, 248)] := ⟨⟨rfl, ce248, q3383, Or.inl ⟨(Or.inl q3382), q3384, ar248⟩⟩, trivial⟩
theorem vc_X0_289 : Fl2 (VC PP ynT ybT yrT yhT "BallotBusLaw" 289 1) [(8, 249)] := ⟨⟨rfl, ce249, q3388, Or.inl ⟨(Or.inl q3387), q3389, ar249⟩⟩, trivial⟩
theorem vc_X0_290 : Fl2 (VC PP ynT ybT yrT yhT "BallotBusLaw" 290 0) [(1, 51)] := ⟨⟨rfl, ce51, q1990, Or.inl ⟨(Or.inl q1989), q1991, ar51⟩⟩, trivial⟩
theorem vc_X0_293 : Fl2 (VC PP ynT ybT yrT yhT "BallotBusLaw" 293 0) [(8, 250)] := ⟨⟨rfl, ce250, q3392, Or.inl ⟨(Or.inl q3391), q3393, ar250⟩⟩, trivial⟩
theorem vc_X0_294 : Fl2 (VC PP ynT ybT yrT yhT "BallotBusLaw" 294 0) [(1, 52)] := ⟨⟨rfl, ce52, q2142, Or.inl ⟨(Or.inl q2141), q2143, ar52⟩⟩, trivial⟩
theorem vc_X0_297 : Fl2 (VC PP ynT ybT yrT yhT "BallotBusLaw" 297 0) [(8, 277)] := ⟨⟨rfl, ce277, q3523, Or.inl ⟨(Or.inl q3522), q3524, ar277⟩⟩, trivial⟩
theorem vc_X0_298 : Fl2 (VC PP ynT ybT yrT yhT "BallotBusLaw" 298 1) [(1, 53)] := ⟨⟨rfl, ce53, q2218, Or.inl ⟨(Or.inl q2217), q2219, ar53⟩⟩, trivial⟩
theorem vc_X0_301 : Fl2 (VC PP ynT ybT yrT yhT "BallotBusLaw" 301 1) [(8, 280)] := ⟨⟨rfl, ce280, q3536, Or.inl ⟨(Or.inl q3535), q3537, ar280⟩⟩, trivial⟩
theorem vc_X0_302 : Fl2 (VC PP ynT ybT yrT yhT "BallotBusLaw" 302 0) [(1, 54)] := ⟨⟨rfl, ce54, q2232, Or.inl ⟨(Or.inl q2231), q2233, ar54⟩⟩, trivial⟩
theorem vc_X0_305 : Fl2 (VC PP ynT ybT yrT yhT "BallotBusLaw" 305 0) [(8, 150)] := ⟨⟨rfl, ce150, q2989, Or.inl ⟨(Or.inl q2988), q2990, ar150⟩⟩, trivial⟩
theorem vc_X0_308 : Fl2 (VC PP ynT ybT yrT yhT "BallotBusLaw" 308 0) [(8, 151)] := ⟨⟨rfl, ce151, q2993, Or.inl ⟨(Or.inl q2992), q2994, ar151⟩⟩, trivial⟩
theorem vc_X0_7 : Fl2 (VC PP ynT ybT yrT yhT "BallotBusLaw" 7 2) [(1, 55)] := ⟨⟨rfl, ce55, q2242, Or.inl ⟨(Or.inl q2241), q2243, ar55⟩⟩, trivial⟩
theorem vc_X0_15 : Fl2 (VC PP ynT ybT yrT yhT "BallotBusLaw" 15 2) [(1, 59)] := ⟨⟨rfl, ce59, q2379, Or.inl ⟨(Or.inl q2378), q2380, ar59⟩⟩, trivial⟩
theorem vc_X0_18 : Fl2 (VC PP ynT ybT yrT yhT "BallotBusLaw" 18 2) [(1, 62)] := ⟨⟨rfl, ce62, q2395, Or.inl ⟨(Or.inl q2394), q2396, ar62⟩⟩, trivial⟩
theorem vc_X0_21 : Fl2 (VC PP ynT ybT yrT yhT "BallotBusLaw" 21 1) [(1, 63)] := ⟨⟨rfl, ce63, q2402, Or.inl ⟨(Or.inl q2401), q2403, ar63⟩⟩, trivial⟩
theorem vc_X0_25 : Fl2 (VC PP ynT ybT yrT yhT "BallotBusLaw" 25 2) [(1, 64)] := ⟨⟨rfl, ce64, q2411, Or.inl ⟨(Or.inl q2410), q2412, ar64⟩⟩, trivial⟩
theorem vc_X0_32 : Fl2 (VC PP ynT ybT yrT yhT "BallotBusLaw" 32 2) [(1, 67)] := ⟨⟨rfl, ce67, q2435, Or.inl ⟨(Or.inl q2434), q2436, ar67⟩⟩, trivial⟩
theorem vc_X0_35 : Fl2 (VC PP ynT ybT yrT yhT "BallotBusLaw" 35 2) [(1, 68)] := ⟨⟨rfl, ce68, q2531, Or.inl ⟨(Or.inl q2530), q2532, ar68⟩⟩, trivial⟩
theorem vc_X0_38 : Fl2 (VC PP ynT ybT yrT yhT "BallotBusLaw" 38 1) [(1, 69)] := ⟨⟨rfl, ce69, q2539, Or.inl ⟨(Or.inl q2538), q2540, ar69⟩⟩, trivial⟩
theorem vc_X0_41 : Fl2 (VC PP ynT ybT yrT yhT "BallotBusLaw" 41 2) [(1, 70)] := ⟨⟨rfl, ce70, q2546, Or.inl ⟨(Or.inl q2545), q2547, ar70⟩⟩, trivial⟩
theorem vc_X0_44 : Fl2 (VC PP ynT ybT yrT yhT "BallotBusLaw" 44 2) [(1, 71)] := ⟨⟨rfl, ce71, q2553, Or.inl ⟨(Or.inl q2552), q2554, ar71⟩⟩, trivial⟩
theorem vc_X0_48 : Fl2 (VC PP ynT ybT yrT yhT "BallotBusLaw" 48 1) [(1, 72)] := ⟨⟨rfl, ce72, q2561, Or.inl ⟨(Or.inl q2560), q2562, ar72⟩⟩, trivial⟩
theorem vc_X0_51 : Fl2 (VC PP ynT ybT yrT yhT "BallotBusLaw" 51 2) [(1, 73)] := ⟨⟨rfl, ce73, q2568, Or.inl ⟨(Or.inl q2567), q2569, ar73⟩⟩, trivial⟩
theorem vc_X0_54 : Fl2 (VC PP ynT ybT yrT yhT "BallotBusLaw" 54 1) [(1, 74)] := ⟨⟨rfl, ce74, q2579, Or.inl ⟨(Or.inl q2578), q2580, ar74⟩⟩, trivial⟩
theorem vc_X0_58 : Fl2 (VC PP ynT ybT yrT yhT "BallotBusLaw" 58 2) [(1, 75)] := ⟨⟨rfl, ce75, q2586, Or.inl ⟨(Or.inl q2585), q2587, ar75⟩⟩, trivial⟩
theorem vc_X0_61 : Fl2 (VC PP ynT ybT yrT yhT "BallotBusLaw" 61 1) [(1, 77)] := ⟨⟨rfl, ce77, q2596, Or.inl ⟨(Or.inl q2595), q2597, ar77⟩⟩, trivial⟩
theorem vc_X0_64 : Fl2 (VC PP ynT ybT yrT yhT "BallotBusLaw" 64 1) [(1, 79)] := ⟨⟨rfl, ce79, q2607, Or.inl ⟨(Or.inl q2606), q2608, ar79⟩⟩, trivial⟩
theorem vc_X0_67 : Fl2 (VC PP ynT ybT yrT yhT "BallotBusLaw" 67 1) [(1, 83)] := ⟨⟨rfl, ce83, q2631, Or.inl ⟨(Or.inl q2630), q2632, ar83⟩⟩, trivial⟩
theorem vc_X0_71 : Fl2 (VC PP ynT ybT yrT yhT "BallotBusLaw" 71 1) [(1, 84)] := ⟨⟨rfl, ce84, q2638, Or.inl ⟨(Or.inl q2637), q2639, ar84⟩⟩, trivial⟩
theorem vc_X0_75 : Fl2 (VC PP ynT ybT yrT yhT "BallotBusLaw" 75 1) [(1, 85)] := ⟨⟨rfl, ce85, q2645, Or.inl ⟨(Or.inl q2644), q2646, ar85⟩⟩, trivial⟩
theorem vc_X0_78 : Fl2 (VC PP ynT ybT yrT yhT "BallotBusLaw" 78 3) [(1, 88)] := ⟨⟨rfl, ce88, q2669, Or.inl ⟨(Or.inl q2668), q2670, ar88⟩⟩, trivial⟩
theorem vc_X0_84 : Fl2 (VC PP ynT ybT yrT yhT "BallotBusLaw" 84 1) [(1, 90)] := ⟨⟨rfl, ce90, q2695, Or.inl ⟨(Or.inl q2694), q2696, ar90⟩⟩, trivial⟩
theorem vc_X0_87 : Fl2 (VC PP ynT ybT yrT yhT "BallotBusLaw" 87 1) [(1, 91)] := ⟨⟨rfl, ce91, q2704, Or.inl ⟨(Or.inl q2703), q2705, ar91⟩⟩, trivial⟩
theorem vc_X0_90 : Fl2 (VC PP ynT ybT yrT yhT "BallotBusLaw" 90 2) [(1, 92)] := ⟨⟨rfl, ce92, q2716, Or.inl ⟨(Or.inl q2715), q2717, ar92⟩⟩, trivial⟩
theorem vc_X0_93 : Fl2 (VC PP ynT ybT yrT yhT "BallotBusLaw" 93 1) [(1, 93)] := ⟨⟨rfl, ce93, q2732, Or.inl ⟨(Or.inl q2731), q2733, ar93⟩⟩, trivial⟩
theorem vc_X0_96 : Fl2 (VC PP ynT ybT yrT yhT "BallotBusLaw" 96 1) [(1, 94)] := ⟨⟨rfl, ce94, q2739, Or.inl ⟨(Or.inl q2738), q2740, ar94⟩⟩, trivial⟩
theorem vc_X0_99 : Fl2 (VC PP ynT ybT yrT yhT "BallotBusLaw" 99 2) [(1, 95)] := ⟨⟨rfl, ce95, q2746, Or.inl ⟨(Or.inl q2745), q2747, ar95⟩⟩, trivial⟩
theorem vc_X0_102 : Fl2 (VC PP ynT ybT yrT yhT "BallotBusLaw" 102 0) [(1, 96)] := ⟨⟨rfl, ce96, q2753, Or.inl ⟨(Or.inl q2752), q2754, ar96⟩⟩, trivial⟩
theorem vc_X0_106 : Fl2 (VC PP ynT ybT yrT yhT "BallotBusLaw" 106 2) [(1, 97)] := ⟨⟨rfl, ce97, q2779, Or.inl ⟨(Or.inl q2778), q2780, ar97⟩⟩, trivial⟩
theorem vc_X0_109 : Fl2 (VC PP ynT ybT yrT yhT "BallotBusLaw" 109 2) [(1, 98)] := ⟨⟨rfl, ce98, q2786, Or.inl ⟨(Or.inl q2785), q2787, ar98⟩⟩, trivial⟩
theorem vc_X0_112 : Fl2 (VC PP ynT ybT yrT yhT "BallotBusLaw" 112 2) [(1, 99)] := ⟨⟨rfl, ce99, q2793, Or.inl ⟨(Or.inl q2792), q2794, ar99⟩⟩, trivial⟩
theorem vc_X0_115 : Fl2 (VC PP ynT ybT yrT yhT "BallotBusLaw" 115 1) [(1, 100)] := ⟨⟨rfl, ce100, q2801, Or.inl ⟨(Or.inl q2800), q2802, ar100⟩⟩, trivial⟩
theorem vc_X0_118 : Fl2 (VC PP ynT ybT yrT yhT "BallotBusLaw" 118 1) [(1, 101)] := ⟨⟨rfl, ce101, q2808, Or.inl ⟨(Or.inl q2807), q2809, ar101⟩⟩, trivial⟩
theorem vc_X0_121 : Fl2 (VC PP ynT ybT yrT yhT "BallotBusLaw" 121 1) [(1, 104)] := ⟨⟨rfl, ce104, q2822, Or.inl ⟨(Or.inl q2821), q2823, ar104⟩⟩, trivial⟩
theorem vc_X0_124 : Fl2 (VC PP ynT ybT yrT yhT "BallotBusLaw" 124 0) [(1, 105)] := ⟨⟨rfl, ce105, q2829, Or.inl ⟨(Or.inl q2828), q2830, ar105⟩⟩, trivial⟩
theorem vc_X1_68 : Fl2 (VC PP ynT ybT yrT yhT "BallotBus" 68 2) [(5, 109)] := ⟨⟨rfl, ce109, q377, Or.inl ⟨(Or.inl q376), q378, ar109⟩⟩, trivial⟩
theorem vc_X1_72 : Fl2 (VC PP ynT ybT yrT yhT "BallotBus" 72 3) [(5, 111)] := ⟨⟨rfl, ce111, q854, Or.inl ⟨(Or.inl q853), q855, ar111⟩⟩, trivial⟩
theorem vc_X1_110 : Fl2 (VC PP ynT ybT yrT yhT "BallotBus" 110 1) [(1, 37)] := ⟨⟨rfl, ce37, q1134, Or.inl ⟨(Or.inl q1132), qs11, ar37⟩⟩, trivial⟩
theorem vc_X1_126 : Fl2 (VC PP ynT ybT yrT yhT "BallotBus" 126 0) [(9, 284)] := ⟨⟨rfl, ce284, q1545, Or.inl ⟨(Or.inl q1544), q1546, ar284⟩⟩, trivial⟩
theorem fc_X1_133 : Fl2 (FC PP ynT ybT yrT yhT "BallotBus" 133 0) [(13, 324), (19, 491)] := ⟨⟨rfl, ce324, q1896, ⟨"java/util/List", "clear", "()V"⟩, q1891, List.mem_of_getElem? (i := 21) rfl, q1894, by unfold arity; decide +kernel⟩, ⟨⟨rfl, ce491, q1901, ⟨"java/util/List", "clear", "()V"⟩, q1891, List.mem_of_getElem? (i := 23) rfl, q1904, by unfold arity; decide +kernel⟩, trivial⟩⟩
theorem vc_X1_139 : Fl2 (VC PP ynT ybT yrT yhT "BallotBus" 139 0) [(5, 110)] := ⟨⟨rfl, ce110, q381, Or.inl ⟨(Or.inl q1906), q382, ar110⟩⟩, trivial⟩
theorem vc_X1_150 : Fl2 (VC PP ynT ybT yrT yhT "BallotBus" 150 0) [(1, 44)] := ⟨⟨rfl, ce44, q1921, Or.inl ⟨(Or.inl q1919), qs32, ar44⟩⟩, trivial⟩
theorem vc_X1_152 : Fl2 (VC PP ynT ybT yrT yhT "BallotBus" 152 0) [(5, 112)] := ⟨⟨rfl, ce112, q858, Or.inl ⟨(Or.inl q1923), q859, ar112⟩⟩, trivial⟩
theorem vc_X1_161 : Fl2 (VC PP ynT ybT yrT yhT "BallotBus" 161 0) [(2, 310), (3, 310), (4, 310)] := ⟨⟨rfl, ce310, q1930, Or.inr ⟨⟨"BallotBus$Tally", "ordinal", "()I"⟩, "java/lang/Enum", (Or.inl q1924), (Or.inl q1925), (Or.inl ⟨q1930, _, _, _, q1931⟩), ⟨by decide, by decide⟩, Or.inl q1927, by unfold arity; decide +kernel⟩⟩, ⟨⟨rfl, ce310, q1930, Or.inr ⟨⟨"BallotBus$Tally", "ordinal", "()I"⟩, "java/lang/Enum", (Or.inl q1924), (Or.inl q1925), (Or.inl ⟨q1930, _, _, _, q1931⟩), ⟨by decide, by decide⟩, Or.inl q1928, by unfold arity; decide +kernel⟩⟩, ⟨⟨rfl, ce310, q1930, Or.inr ⟨⟨"BallotBus$Tally", "ordinal", "()I"⟩, "java/lang/Enum", (Or.inl q1924), (Or.inl q1925), (Or.inl ⟨q1930, _, _, _, q1931⟩), ⟨by decide, by decide⟩, Or.inl q1929, by unfold arity; decide +kernel⟩⟩, trivial⟩⟩⟩
theorem fc_X1_89 : Fl2 (FC PP ynT ybT yrT yhT "BallotBus" 89 0) [(13, 320), (19, 505)] := ⟨⟨rfl, ce320, q969, ⟨"java/util/List", "size", "()I"⟩, q1933, List.mem_of_getElem? (i := 42) rfl, q967, by unfold arity; decide +kernel⟩, ⟨⟨rfl, ce505, q979, ⟨"java/util/List", "size", "()I"⟩, q1933, List.mem_of_getElem? (i := 44) rfl, q977, by unfold arity; decide +kernel⟩, trivial⟩⟩
theorem vc_X1_197 : Fl2 (VC PP ynT ybT yrT yhT "BallotBus" 197 1) [(14, 350)] := ⟨⟨rfl, ce350, q1258, Or.inl ⟨(Or.inl q1938), q1259, ar350⟩⟩, trivial⟩
theorem vc_X1_207 : Fl2 (VC PP ynT ybT yrT yhT "BallotBus" 207 0) [(14, 351)] := ⟨⟨rfl, ce351, q1320, Or.inl ⟨(Or.inl q1939), q1321, ar351⟩⟩, trivial⟩
theorem vc_X1_211 : Fl2 (VC PP ynT ybT yrT yhT "BallotBus" 211 1) [(16, 416)] := ⟨⟨rfl, ce416, q1776, Or.inl ⟨(Or.inl q1940), q1777, ar416⟩⟩, trivial⟩
theorem vc_X1_219 : Fl2 (VC PP ynT ybT yrT yhT "BallotBus" 219 0) [(17, 450)] := ⟨⟨rfl, ce450, q1709, Or.inl ⟨(Or.inl q1942), q1710, ar450⟩⟩, trivial⟩
theorem vc_X1_356 : Fl2 (VC PP ynT ybT yrT yhT "BallotBus" 356 1) [(6, 118)] := ⟨⟨rfl, ce118, q1952, Or.inl ⟨(Or.inl q1951), q1953, ar118⟩⟩, trivial⟩
theorem vc_X1_372 : Fl2 (VC PP ynT ybT yrT yhT "BallotBus" 372 1) [(7, 141)] := ⟨⟨rfl, ce141, q1969, Or.inl ⟨(Or.inl q1968), q1970, ar141⟩⟩, trivial⟩
theorem vc_X1_262 : Fl2 (VC PP ynT ybT yrT yhT "BallotBus" 262 1) [(6, 119)] := ⟨⟨rfl, ce119, q1961, Or.inl ⟨(Or.inl q1980), q1962, ar119⟩⟩, trivial⟩
theorem vc_X1_103 : Fl2 (VC PP ynT ybT yrT yhT "BallotBus" 103 0) [(6, 120)] := ⟨⟨rfl, ce120, q1994, Or.inl ⟨(Or.inl q1993), q1995, ar120⟩⟩, trivial⟩
theorem vc_X1_428 : Fl2 (VC PP ynT ybT yrT yhT "BallotBus" 428 0) [(6, 122)] := ⟨⟨rfl, ce122, q2006, Or.inl ⟨(Or.inl q2005), q2007, ar122⟩⟩, trivial⟩
theorem vc_X1_454 : Fl2 (VC PP ynT ybT yrT yhT "BallotBus" 454 0) [(6, 123)] := ⟨⟨rfl, ce123, q2010, Or.inl ⟨(Or.inl q2009), q2011, ar123⟩⟩, trivial⟩
theorem vc_X1_467 : Fl2 (VC PP ynT ybT yrT yhT "BallotBus" 467 1) [(14, 355)] := ⟨⟨rfl, ce355, q2146, Or.inl ⟨(Or.inl q2145), q2147, ar355⟩⟩, trivial⟩
theorem vc_X1_472 : Fl2 (VC PP ynT ybT yrT yhT "BallotBus" 472 1) [(14, 354)] := ⟨⟨rfl, ce354, q1435, Or.inl ⟨(Or.inl q2211), q1436, ar354⟩⟩, trivial⟩
theorem fc_X1_478 : Fl2 (FC PP ynT ybT yrT yhT "BallotBus" 478 1) [(13, 325), (19, 508)] := ⟨⟨rfl, ce325, q2065, ⟨"java/util/List", "get", "(I)Ljava/lang/Object;"⟩, q2213, List.mem_of_getElem? (i := 27) rfl, q2063, by unfold arity; decide +kernel⟩, ⟨⟨rfl, ce508, q2103, ⟨"java/util/List", "get", "(I)Ljava/lang/Object;"⟩, q2213, List.mem_of_getElem? (i := 29) rfl, q2101, by unfold arity; decide +kernel⟩, trivial⟩⟩
theorem vc_X1_299 : Fl2 (VC PP ynT ybT yrT yhT "BallotBus" 299 1) [(6, 127)] := ⟨⟨rfl, ce127, q2052, Or.inl ⟨(Or.inl q2215), q2053, ar127⟩⟩, trivial⟩
theorem vc_X1_482 : Fl2 (VC PP ynT ybT yrT yhT "BallotBus" 482 0) [(14, 352)] := ⟨⟨rfl, ce352, q1341, Or.inl ⟨(Or.inl q2216), q3552, ar352⟩⟩, trivial⟩
theorem vc_X1_484 : Fl2 (VC PP ynT ybT yrT yhT "BallotBus" 484 1) [(14, 356)] := ⟨⟨rfl, ce356, q2222, Or.inl ⟨(Or.inl q2221), q2223, ar356⟩⟩, trivial⟩
theorem vc_X1_248 : Fl2 (VC PP ynT ybT yrT yhT "BallotBus" 248 1) [(1, 56)] := ⟨⟨rfl, ce56, q2247, Or.inl ⟨(Or.inl q2245), qs38, ar56⟩⟩, trivial⟩
theorem vc_X1_270 : Fl2 (VC PP ynT ybT yrT yhT "BallotBus" 270 2) [(1, 58)] := ⟨⟨rfl, ce58, q2265, Or.inl ⟨(Or.inl q2263), qs39, ar58⟩⟩, trivial⟩
theorem fc_X1_226 : Fl2 (FC PP ynT ybT yrT yhT "BallotBus" 226 0) [(13, 329), (19, 496)] := ⟨⟨rfl, ce329, q2273, ⟨"java/util/List", "iterator", "()Ljava/util/Iterator;"⟩, q2268, List.mem_of_getElem? (i := 36) rfl, q2271, by unfold arity; decide +kernel⟩, ⟨⟨rfl, ce496, q2297, ⟨"java/util/List", "iterator", "()Ljava/util/Iterator;"⟩, q2268, List.mem_of_getElem? (i := 38) rfl, q2319, by unfold arity; decide +kernel⟩, trivial⟩⟩
theorem fc_X1_230 : Fl2 (FC PP ynT ybT yrT yhT "BallotBus" 230 0) [(21, 533)] := ⟨⟨rfl, ce533, q2328, ⟨"java/util/Iterator", "hasNext", "()Z"⟩, q2322, List.mem_of_getElem? (i := 11) rfl, q2326, by unfold arity; decide +kernel⟩, trivial⟩
theorem fc_X1_236 : Fl2 (FC PP ynT ybT yrT yhT "BallotBus" 236 0) [(21, 534)] := ⟨⟨rfl, ce534, q2343, ⟨"java/util/Iterator", "next", "()Ljava/lang/Object;"⟩, q2338, List.mem_of_getElem? (i := 13) rfl, q2341, by unfold arity; decide +kernel⟩, trivial⟩
theorem vc_X1_286 : Fl2 (VC PP ynT ybT yrT yhT "BallotBus" 286 1) [(1, 60)] := ⟨⟨rfl, ce60, q2384, Or.inl ⟨(Or.inl q2382), qs40, ar60⟩⟩, trivial⟩
theorem vc_X1_295 : Fl2 (VC PP ynT ybT yrT yhT "BallotBus" 295 1) [(1, 61)] := ⟨⟨rfl, ce61, q2388, Or.inl ⟨(Or.inl q2386), qs41, ar61⟩⟩, trivial⟩
theorem vc_X1_302 : Fl2 (VC PP ynT ybT yrT yhT "BallotBus" 302 1) [(6, 128)] := ⟨⟨rfl, ce128, q2056, Or.inl ⟨(Or.inl q2390), q2057, ar128⟩⟩, trivial⟩
theorem vc_X1_315 : Fl2 (VC PP ynT ybT yrT yhT "BallotBus" 315 1) [(6, 132)] := ⟨⟨rfl, ce132, q2423, Or.inl ⟨(Or.inl q2422), q2424, ar132⟩⟩, trivial⟩
theorem vc_X1_344 : Fl2 (VC PP ynT ybT yrT yhT "BallotBus" 344 1) [(22, 545)] := ⟨⟨rfl, ce545, q2477, Or.inl ⟨(Or.inl q2476), q2478, ar545⟩⟩, trivial⟩
theorem vc_X1_345 : Fl2 (VC PP ynT ybT yrT yhT "BallotBus" 345 0) [(22, 551)] := ⟨⟨rfl, ce551, q2505, Or.inl ⟨(Or.inl q2504), q2506, ar551⟩⟩, trivial⟩
theorem vc_X1_346 : Fl2 (VC PP ynT ybT yrT yhT "BallotBus" 346 0) [(22, 541)] := ⟨⟨rfl, ce541, q2512, Or.inr ⟨⟨"java/util/PriorityQueue", "remove", "()Ljava/lang/Object;"⟩, "java/util/AbstractQueue", (Or.inl q2508), (Or.inl q2509), (Or.inl ⟨q2512, _, _, _, q2513⟩), ⟨by decide, by decide⟩, Or.inl q2511, by unfold arity; decide +kernel⟩⟩, trivial⟩
theorem vc_X1_368 : Fl2 (VC PP ynT ybT yrT yhT "BallotBus" 368 2) [(7, 142)] := ⟨⟨rfl, ce142, q1973, Or.inl ⟨(Or.inl q2556), q1974, ar142⟩⟩, trivial⟩
theorem vc_X1_380 : Fl2 (VC PP ynT ybT yrT yhT "BallotBus" 380 3) [(6, 133)] := ⟨⟨rfl, ce133, q2572, Or.inl ⟨(Or.inl q2571), q2573, ar133⟩⟩, trivial⟩
theorem vc_X1_388 : Fl2 (VC PP ynT ybT yrT yhT "BallotBus" 388 2) [(1, 78)] := ⟨⟨rfl, ce78, q2601, Or.inl ⟨(Or.inl q2599), qs44, ar78⟩⟩, trivial⟩
theorem vc_X1_398 : Fl2 (VC PP ynT ybT yrT yhT "BallotBus" 398 4) [(1, 82)] := ⟨⟨rfl, ce82, q2621, Or.inl ⟨(Or.inl q2619), qs47, ar82⟩⟩, trivial⟩
theorem vc_X1_488 : Fl2 (VC PP ynT ybT yrT yhT "BallotBus" 488 2) [(1, 81)] := ⟨⟨rfl, ce81, q2616, Or.inl ⟨(Or.inl q2614), qs46, ar81⟩⟩, trivial⟩
theorem vc_X1_422 : Fl2 (VC PP ynT ybT yrT yhT "BallotBus" 422 0) [(1, 87)] := ⟨⟨rfl, ce87, q2653, Or.inl ⟨(Or.inl q2651), qs48, ar87⟩⟩, trivial⟩
theorem vc_X1_425 : Fl2 (VC PP ynT ybT yrT yhT "BallotBus" 425 1) [(6, 134)] := ⟨⟨rfl, ce134, q2660, Or.inl ⟨(Or.inl q2659), q2661, ar134⟩⟩, trivial⟩
theorem fc_X1_95 : Fl2 (FC PP ynT ybT yrT yhT "BallotBus" 95 1) [(13, 327), (19, 495)] := ⟨⟨rfl, ce327, q2123, ⟨"java/util/List", "remove", "(I)Ljava/lang/Object;"⟩, q2656, List.mem_of_getElem? (i := 39) rfl, q2121, by unfold arity; decide +kernel⟩, ⟨⟨rfl, ce495, q2132, ⟨"java/util/List", "remove", "(I)Ljava/lang/Object;"⟩, q2656, List.mem_of_getElem? (i := 41) rfl, q2135, by unfold arity; decide +kernel⟩, trivial⟩⟩
theorem fc_X1_99 : Fl2 (FC PP ynT ybT yrT yhT "BallotBus" 99 1) [(13, 314), (19, 488)] := ⟨⟨rfl, ce314, q395, ⟨"java/util/List", "add", "(Ljava/lang/Object;)Z"⟩, q2658, List.mem_of_getElem? (i := 15) rfl, q393, by unfold arity; decide +kernel⟩, ⟨⟨rfl, ce488, q476, ⟨"java/util/List", "add", "(Ljava/lang/Object;)Z"⟩, q2658, List.mem_of_getElem? (i := 17) rfl, q480, by unfold arity; decide +kernel⟩, trivial⟩⟩
theorem vc_X1_437 : Fl2 (VC PP ynT ybT yrT yhT "BallotBus" 437 1) [(6, 130)] := ⟨⟨rfl, ce130, q2114, Or.inl ⟨(Or.inl q2698), q2115, ar130⟩⟩, trivial⟩
theorem vc_X1_440 : Fl2 (VC PP ynT ybT yrT yhT "BallotBus" 440 1) [(6, 129)] := ⟨⟨rfl, ce129, q2110, Or.inl ⟨(Or.inl q2699), q2111, ar129⟩⟩, trivial⟩
theorem vc_X1_443 : Fl2 (VC PP ynT ybT yrT yhT "BallotBus" 443 1) [(6, 135)] := ⟨⟨rfl, ce135, q2708, Or.inl ⟨(Or.inl q2707), q2709, ar135⟩⟩, trivial⟩
theorem vc_X1_446 : Fl2 (VC PP ynT ybT yrT yhT "BallotBus" 446 2) [(6, 136)] := ⟨⟨rfl, ce136, q2720, Or.inl ⟨(Or.inl q2719), q2721, ar136⟩⟩, trivial⟩
theorem vc_X1_449 : Fl2 (VC PP ynT ybT yrT yhT "BallotBus" 449 2) [(6, 137)] := ⟨⟨rfl, ce137, q2725, Or.inl ⟨(Or.inl q2724), q2726, ar137⟩⟩, trivial⟩
theorem fc_X1_451 : Fl2 (FC PP ynT ybT yrT yhT "BallotBus" 451 0) [(13, 330), (19, 509)] := ⟨⟨rfl, ce330, q2762, ⟨"java/util/List", "isEmpty", "()Z"⟩, q2757, List.mem_of_getElem? (i := 33) rfl, q2760, by unfold arity; decide +kernel⟩, ⟨⟨rfl, ce509, q2772, ⟨"java/util/List", "isEmpty", "()Z"⟩, q2757, List.mem_of_getElem? (i := 35) rfl, q2770, by unfold arity; decide +kernel⟩, trivial⟩⟩
theorem vc_X1_457 : Fl2 (VC PP ynT ybT yrT yhT "BallotBus" 457 2) [(1, 98)] := ⟨⟨rfl, ce98, q2786, Or.inl ⟨(Or.inl q2796), q2787, ar98⟩⟩, trivial⟩
theorem vc_X1_463 : Fl2 (VC PP ynT ybT yrT yhT "BallotBus" 463 1) [(1, 103)] := ⟨⟨rfl, ce103, q2816, Or.inl ⟨(Or.inl q2814), qs50, ar103⟩⟩, trivial⟩
theorem vc_X2_38 : Fl2 (VC PP ynT ybT yrT yhT "BallotBus$Tally" 38 3) [(2, 304), (3, 305), (4, 303)] := ⟨⟨rfl, ce304, q2029, Or.inr ⟨⟨"BallotBus$Tally", "more", "(LBallotBus$Sheet;II)I"⟩, "BallotBus$Tally", (Or.inl q2025), (Or.inl q2027), (Or.inr (List.mem_of_getElem? (i := 19) rfl)), ⟨by decide, by decide⟩, Or.inl q2028, by unfold arity; decide +kernel⟩⟩, ⟨⟨rfl, ce305, q2032, Or.inr ⟨⟨"BallotBus$Tally", "more", "(LBallotBus$Sheet;II)I"⟩, "BallotBus$Tally", (Or.inl q2025), (Or.inl q2027), (Or.inr (List.mem_of_getElem? (i := 19) rfl)), ⟨by decide, by decide⟩, Or.inl q2031, by unfold arity; decide +kernel⟩⟩, ⟨⟨rfl, ce303, q2035, Or.inr ⟨⟨"BallotBus$Tally", "more", "(LBallotBus$Sheet;II)I"⟩, "BallotBus$Tally", (Or.inl q2025), (Or.inl q2027), (Or.inr (List.mem_of_getElem? (i := 19) rfl)), ⟨by decide, by decide⟩, Or.inl q2034, by unfold arity; decide +kernel⟩⟩, trivial⟩⟩⟩
theorem vc_X3_58 : Fl2 (VC PP ynT ybT yrT yhT "BallotBus$Setup" 58 0) [(5, 110)] := ⟨⟨rfl, ce110, q381, Or.inl ⟨(Or.inl q380), q382, ar110⟩⟩, trivial⟩
theorem fc_X3_61 : Fl2 (FC PP ynT ybT yrT yhT "BallotBus$Setup" 61 1) [(13, 314), (19, 488)] := ⟨⟨rfl, ce314, q395, ⟨"java/util/List", "add", "(Ljava/lang/Object;)Z"⟩, q389, List.mem_of_getElem? (i := 15) rfl, q393, by unfold arity; decide +kernel⟩, ⟨⟨rfl, ce488, q476, ⟨"java/util/List", "add", "(Ljava/lang/Object;)Z"⟩, q389, List.mem_of_getElem? (i := 17) rfl, q480, by unfold arity; decide +kernel⟩, trivial⟩⟩
theorem vc_X3_73 : Fl2 (VC PP ynT ybT yrT yhT "BallotBus$Setup" 73 2) [(16, 400)] := ⟨⟨rfl, ce400, q503, Or.inl ⟨(Or.inl q502), q504, ar400⟩⟩, trivial⟩
theorem vc_X3_54 : Fl2 (VC PP ynT ybT yrT yhT "BallotBus$Setup" 54 0) [(16, 399)] := ⟨⟨rfl, ce399, q385, Or.inl ⟨(Or.inl q384), q386, ar399⟩⟩, trivial⟩
theorem vc_X3_77 : Fl2 (VC PP ynT ybT yrT yhT "BallotBus$Setup" 77 0) [(5, 112)] := ⟨⟨rfl, ce112, q858, Or.inl ⟨(Or.inl q857), q859, ar112⟩⟩, trivial⟩
theorem vc_X4_80 : Fl2 (VC PP ynT ybT yrT yhT "BallotBus$Bus" 80 0) [(5, 110)] := ⟨⟨rfl, ce110, q381, Or.inl ⟨(Or.inl q883), q382, ar110⟩⟩, trivial⟩
theorem fc_X4_98 : Fl2 (FC PP ynT ybT yrT yhT "BallotBus$Bus" 98 1) [(13, 318), (19, 489)] := ⟨⟨rfl, ce318, q919, ⟨"java/util/List", "addAll", "(Ljava/util/Collection;)Z"⟩, q914, List.mem_of_getElem? (i := 18) rfl, q917, by unfold arity; decide +kernel⟩, ⟨⟨rfl, ce489, q958, ⟨"java/util/List", "addAll", "(Ljava/util/Collection;)Z"⟩, q914, List.mem_of_getElem? (i := 20) rfl, q961, by unfold arity; decide +kernel⟩, trivial⟩⟩
theorem fc_X4_104 : Fl2 (FC PP ynT ybT yrT yhT "BallotBus$Bus" 104 0) [(13, 320), (19, 505)] := ⟨⟨rfl, ce320, q969, ⟨"java/util/List", "size", "()I"⟩, q964, List.mem_of_getElem? (i := 42) rfl, q967, by unfold arity; decide +kernel⟩, ⟨⟨rfl, ce505, q979, ⟨"java/util/List", "size", "()I"⟩, q964, List.mem_of_getElem? (i := 44) rfl, q977, by unfold arity; decide +kernel⟩, trivial⟩⟩
theorem vc_X4_155 : Fl2 (VC PP ynT ybT yrT yhT "BallotBus$Bus" 155 0) [(7, 139)] := ⟨⟨rfl, ce139, q1956, Or.inl ⟨(Or.inl q1955), q1957, ar139⟩⟩, trivial⟩
theorem vc_X4_156 : Fl2 (VC PP ynT ybT yrT yhT "BallotBus$Bus" 156 0) [(5, 112)] := ⟨⟨rfl, ce112, q858, Or.inl ⟨(Or.inl q1959), q859, ar112⟩⟩, trivial⟩
theorem vc_X4_159 : Fl2 (VC PP ynT ybT yrT yhT "BallotBus$Bus" 159 1) [(6, 119)] := ⟨⟨rfl, ce119, q1961, Or.inl ⟨(Or.inl q1960), q1962, ar119⟩⟩, trivial⟩
theorem vc_X4_166 : Fl2 (VC PP ynT ybT yrT yhT "BallotBus$Bus" 166 3) [(7, 140)] := ⟨⟨rfl, ce140, q1965, Or.inl ⟨(Or.inl q1964), q1966, ar140⟩⟩, trivial⟩
theorem fc_X4_124 : Fl2 (FC PP ynT ybT yrT yhT "BallotBus$Bus" 124 0) [(13, 324), (19, 491)] := ⟨⟨rfl, ce324, q1896, ⟨"java/util/List", "clear", "()V"⟩, q2004, List.mem_of_getElem? (i := 21) rfl, q1894, by unfold arity; decide +kernel⟩, ⟨⟨rfl, ce491, q1901, ⟨"java/util/List", "clear", "()V"⟩, q2004, List.mem_of_getElem? (i := 23) rfl, q1904, by unfold arity; decide +kernel⟩, trivial⟩⟩
theorem vc_X4_234 : Fl2 (VC PP ynT ybT yrT yhT "BallotBus$Bus" 234 0) [(6, 124)] := ⟨⟨rfl, ce124, q2015, Or.inl ⟨(Or.inl q2013), qs33, ar124⟩⟩, trivial⟩
theorem vc_X4_240 : Fl2 (VC PP ynT ybT yrT yhT "BallotBus$Bus" 240 0) [(6, 125)] := ⟨⟨rfl, ce125, q2044, Or.inl ⟨(Or.inl q2042), qs34, ar125⟩⟩, trivial⟩
theorem vc_X4_243 : Fl2 (VC PP ynT ybT yrT yhT "BallotBus$Bus" 243 0) [(6, 126)] := ⟨⟨rfl, ce126, q2049, Or.inl ⟨(Or.inl q2047), qs35, ar126⟩⟩, trivial⟩
theorem vc_X4_246 : Fl2 (VC PP ynT ybT yrT yhT "BallotBus$Bus" 246 0) [(6, 131)] := ⟨⟨rfl, ce131, q2139, Or.inl ⟨(Or.inl q2137), qs37, ar131⟩⟩, trivial⟩
theorem vc_X4_170 : Fl2 (VC PP ynT ybT yrT yhT "BallotBus$Bus" 170 1) [(6, 118)] := ⟨⟨rfl, ce118, q1952, Or.inl ⟨(Or.inl q2017), q1953, ar118⟩⟩, trivial⟩
theorem vc_X4_177 : Fl2 (VC PP ynT ybT yrT yhT "BallotBus$Bus" 177 2) [(2, 107), (3, 107), (4, 107)] := ⟨⟨rfl, ce107, q2019, Or.inl ⟨(Or.inl q2018), q2021, ar107⟩⟩, ⟨⟨rfl, ce107, q2019, Or.inl ⟨(Or.inl q2018), q2022, ar107⟩⟩, ⟨⟨rfl, ce107, q2019, Or.inl ⟨(Or.inl q2018), q2023, ar107⟩⟩, trivial⟩⟩⟩
theorem vc_X4_204 : Fl2 (VC PP ynT ybT yrT yhT "BallotBus$Bus" 204 1) [(6, 127)] := ⟨⟨rfl, ce127, q2052, Or.inl ⟨(Or.inl q2051), q2053, ar127⟩⟩, trivial⟩
theorem vc_X4_207 : Fl2 (VC PP ynT ybT yrT yhT "BallotBus$Bus" 207 1) [(6, 128)] := ⟨⟨rfl, ce128, q2056, Or.inl ⟨(Or.inl q2055), q2057, ar128⟩⟩, trivial⟩
theorem vc_X4_217 : Fl2 (VC PP ynT ybT yrT yhT "BallotBus$Bus" 217 1) [(6, 129)] := ⟨⟨rfl, ce129, q2110, Or.inl ⟨(Or.inl q2109), q2111, ar129⟩⟩, trivial⟩
theorem fc_X4_192 : Fl2 (FC PP ynT ybT yrT yhT "BallotBus$Bus" 192 1) [(13, 325), (19, 508)] := ⟨⟨rfl, ce325, q2065, ⟨"java/util/List", "get", "(I)Ljava/lang/Object;"⟩, q2060, List.mem_of_getElem? (i := 27) rfl, q2063, by unfold arity; decide +kernel⟩, ⟨⟨rfl, ce508, q2103, ⟨"java/util/List", "get", "(I)Ljava/lang/Object;"⟩, q2060, List.mem_of_getElem? (i := 29) rfl, q2101, by unfold arity; decide +kernel⟩, trivial⟩⟩
theorem vc_X4_220 : Fl2 (VC PP ynT ybT yrT yhT "BallotBus$Bus" 220 1) [(6, 130)] := ⟨⟨rfl, ce130, q2114, Or.inl ⟨(Or.inl q2113), q2115, ar130⟩⟩, trivial⟩
theorem fc_X4_224 : Fl2 (FC PP ynT ybT yrT yhT "BallotBus$Bus" 224 1) [(13, 327), (19, 495)] := ⟨⟨rfl, ce327, q2123, ⟨"java/util/List", "remove", "(I)Ljava/lang/Object;"⟩, q2118, List.mem_of_getElem? (i := 39) rfl, q2121, by unfold arity; decide +kernel⟩, ⟨⟨rfl, ce495, q2132, ⟨"java/util/List", "remove", "(I)Ljava/lang/Object;"⟩, q2118, List.mem_of_getElem? (i := 41) rfl, q2135, by unfold arity; decide +kernel⟩, trivial⟩⟩
theorem vc_X4_249 : Fl2 (VC PP ynT ybT yrT yhT "BallotBus$Bus" 249 0) [(6, 123)] := ⟨⟨rfl, ce123, q2010, Or.inl ⟨(Or.inl q2663), q2011, ar123⟩⟩, trivial⟩
theorem vc_X5_28 : Fl2 (VC PP ynT ybT yrT yhT "BallotBus$Sheet" 28 2) [(7, 142)] := ⟨⟨rfl, ce142, q1973, Or.inl ⟨(Or.inl q1972), q1974, ar142⟩⟩, trivial⟩
theorem vc_X6_70 : Fl2 (VC PP ynT ybT yrT yhT "BallotBusModel" 70 0) [(8, 144)] := ⟨⟨rfl, ce144, q2840, Or.inl ⟨(Or.inl q2838), qs51, ar144⟩⟩, trivial⟩
theorem vc_X6_79 : Fl2 (VC PP ynT ybT yrT yhT "BallotBusModel" 79 0) [(8, 145)] := ⟨⟨rfl, ce145, q2844, Or.inl ⟨(Or.inl q2842), qs52, ar145⟩⟩, trivial⟩
theorem vc_X6_92 : Fl2 (VC PP ynT ybT yrT yhT "BallotBusModel" 92 1) [(8, 149)] := ⟨⟨rfl, ce149, q2986, Or.inl ⟨(Or.inl q2984), qs53, ar149⟩⟩, trivial⟩
theorem vc_X6_218 : Fl2 (VC PP ynT ybT yrT yhT "BallotBusModel" 218 0) [(8, 155)] := ⟨⟨rfl, ce155, q3009, Or.inl ⟨(Or.inl q3007), qs54, ar155⟩⟩, trivial⟩
theorem vc_X6_221 : Fl2 (VC PP ynT ybT yrT yhT "BallotBusModel" 221 2) [(8, 156)] := ⟨⟨rfl, ce156, q3013, Or.inl ⟨(Or.inl q3011), qs55, ar156⟩⟩, trivial⟩
theorem vc_X6_224 : Fl2 (VC PP ynT ybT yrT yhT "BallotBusModel" 224 1) [(8, 186)] := ⟨⟨rfl, ce186, q3131, Or.inl ⟨(Or.inl q3129), qs83, ar186⟩⟩, trivial⟩
theorem vc_X6_203 : Fl2 (VC PP ynT ybT yrT yhT "BallotBusModel" 203 1) [(8, 157)] := ⟨⟨rfl, ce157, q3017, Or.inl ⟨(Or.inl q3015), qs56, ar157⟩⟩, trivial⟩
theorem vc_X6_206 : Fl2 (VC PP ynT ybT yrT yhT "BallotBusModel" 206 0) [(8, 158)] := ⟨⟨rfl, ce158, q3021, Or.inl ⟨(Or.inl q3019), qs57, ar158⟩⟩, trivial⟩
theorem vc_X6_188 : Fl2 (VC PP ynT ybT yrT yhT "BallotBusModel" 188 0) [(8, 159)] := ⟨⟨rfl, ce159, q3025, Or.inl ⟨(Or.inl q3023), qs58, ar159⟩⟩, trivial⟩
theorem vc_X6_194 : Fl2 (VC PP ynT ybT yrT yhT "BallotBusModel" 194 0) [(8, 171)] := ⟨⟨rfl, ce171, q3073, Or.inl ⟨(Or.inl q3071), qs70, ar171⟩⟩, trivial⟩
theorem vc_X6_197 : Fl2 (VC PP ynT ybT yrT yhT "BallotBusModel" 197 0) [(8, 173)] := ⟨⟨rfl, ce173, q3080, Or.inl ⟨(Or.inl q3078), qs71, ar173⟩⟩, trivial⟩
theorem vc_X6_200 : Fl2 (VC PP ynT ybT yrT yhT "BallotBusModel" 200 0) [(8, 182)] := ⟨⟨rfl, ce182, q3115, Or.inl ⟨(Or.inl q3113), qs79, ar182⟩⟩, trivial⟩
theorem vc_X6_163 : Fl2 (VC PP ynT ybT yrT yhT "BallotBusModel" 163 1) [(8, 160)] := ⟨⟨rfl, ce160, q3029, Or.inl ⟨(Or.inl q3027), qs59, ar160⟩⟩, trivial⟩
theorem vc_X6_155 : Fl2 (VC PP ynT ybT yrT yhT "BallotBusModel" 155 0) [(8, 161)] := ⟨⟨rfl, ce161, q3033, Or.inl ⟨(Or.inl q3031), qs60, ar161⟩⟩, trivial⟩
theorem vc_X6_159 : Fl2 (VC PP ynT ybT yrT yhT "BallotBusModel" 159 3) [(8, 163)] := ⟨⟨rfl, ce163, q3041, Or.inl ⟨(Or.inl q3039), qs62, ar163⟩⟩, trivial⟩
theorem vc_X6_128 : Fl2 (VC PP ynT ybT yrT yhT "BallotBusModel" 128 1) [(8, 162)] := ⟨⟨rfl, ce162, q3037, Or.inl ⟨(Or.inl q3035), qs61, ar162⟩⟩, trivial⟩
theorem vc_X6_146 : Fl2 (VC PP ynT ybT yrT yhT "BallotBusModel" 146 2) [(8, 164)] := ⟨⟨rfl, ce164, q3045, Or.inl ⟨(Or.inl q3043), qs63, ar164⟩⟩, trivial⟩
theorem vc_X6_149 : Fl2 (VC PP ynT ybT yrT yhT "BallotBusModel" 149 1) [(8, 166)] := ⟨⟨rfl, ce166, q3053, Or.inl ⟨(Or.inl q3051), qs65, ar166⟩⟩, trivial⟩
theorem vc_X6_152 : Fl2 (VC PP ynT ybT yrT yhT "BallotBusModel" 152 1) [(8, 170)] := ⟨⟨rfl, ce170, q3069, Or.inl ⟨(Or.inl q3067), qs69, ar170⟩⟩, trivial⟩
theorem vc_X6_131 : Fl2 (VC PP ynT ybT yrT yhT "BallotBusModel" 131 2) [(8, 165)] := ⟨⟨rfl, ce165, q3049, Or.inl ⟨(Or.inl q3047), qs64, ar165⟩⟩, trivial⟩
theorem vc_X6_143 : Fl2 (VC PP ynT ybT yrT yhT "BallotBusModel" 143 2) [(8, 167)] := ⟨⟨rfl, ce167, q3057, Or.inl ⟨(Or.inl q3055), qs66, ar167⟩⟩, trivial⟩
theorem vc_X6_140 : Fl2 (VC PP ynT ybT yrT yhT "BallotBusModel" 140 2) [(8, 168)] := ⟨⟨rfl, ce168, q3061, Or.inl ⟨(Or.inl q3059), qs67, ar168⟩⟩, trivial⟩
theorem vc_X6_137 : Fl2 (VC PP ynT ybT yrT yhT "BallotBusModel" 137 2) [(8, 169)] := ⟨⟨rfl, ce169, q3065, Or.inl ⟨(Or.inl q3063), qs68, ar169⟩⟩, trivial⟩
theorem vc_X6_173 : Fl2 (VC PP ynT ybT yrT yhT "BallotBusModel" 173 2) [(8, 175)] := ⟨⟨rfl, ce175, q3087, Or.inl ⟨(Or.inl q3085), qs72, ar175⟩⟩, trivial⟩
theorem vc_X6_100 : Fl2 (VC PP ynT ybT yrT yhT "BallotBusModel" 100 2) [(8, 177)] := ⟨⟨rfl, ce177, q3095, Or.inl ⟨(Or.inl q3093), qs74, ar177⟩⟩, trivial⟩
theorem vc_X6_112 : Fl2 (VC PP ynT ybT yrT yhT "BallotBusModel" 112 2) [(8, 176)] := ⟨⟨rfl, ce176, q3091, Or.inl ⟨(Or.inl q3089), qs73, ar176⟩⟩, trivial⟩
theorem vc_X6_119 : Fl2 (VC PP ynT ybT yrT yhT "BallotBusModel" 119 1) [(8, 179)] := ⟨⟨rfl, ce179, q3103, Or.inl ⟨(Or.inl q3101), qs76, ar179⟩⟩, trivial⟩
theorem vc_X6_108 : Fl2 (VC PP ynT ybT yrT yhT "BallotBusModel" 108 1) [(8, 178)] := ⟨⟨rfl, ce178, q3099, Or.inl ⟨(Or.inl q3097), qs75, ar178⟩⟩, trivial⟩
theorem vc_X6_116 : Fl2 (VC PP ynT ybT yrT yhT "BallotBusModel" 116 2) [(8, 180)] := ⟨⟨rfl, ce180, q3107, Or.inl ⟨(Or.inl q3105), qs77, ar180⟩⟩, trivial⟩
theorem vc_X6_104 : Fl2 (VC PP ynT ybT yrT yhT "BallotBusModel" 104 1) [(8, 181)] := ⟨⟨rfl, ce181, q3111, Or.inl ⟨(Or.inl q3109), qs78, ar181⟩⟩, trivial⟩
theorem vc_X6_176 : Fl2 (VC PP ynT ybT yrT yhT "BallotBusModel" 176 1) [(8, 183)] := ⟨⟨rfl, ce183, q3119, Or.inl ⟨(Or.inl q3117), qs80, ar183⟩⟩, trivial⟩
theorem vc_X6_179 : Fl2 (VC PP ynT ybT yrT yhT "BallotBusModel" 179 1) [(8, 184)] := ⟨⟨rfl, ce184, q3123, Or.inl ⟨(Or.inl q3121), qs81, ar184⟩⟩, trivial⟩
theorem vc_X6_182 : Fl2 (VC PP ynT ybT yrT yhT "BallotBusModel" 182 1) [(8, 185)] := ⟨⟨rfl, ce185, q3127, Or.inl ⟨(Or.inl q3125), qs82, ar185⟩⟩, trivial⟩
theorem vc_X6_227 : Fl2 (VC PP ynT ybT yrT yhT "BallotBusModel" 227 1) [(8, 188)] := ⟨⟨rfl, ce188, q3139, Or.inl ⟨(Or.inl q3137), qs84, ar188⟩⟩, trivial⟩
theorem vc_X6_230 : Fl2 (VC PP ynT ybT yrT yhT "BallotBusModel" 230 1) [(8, 189)] := ⟨⟨rfl, ce189, q3143, Or.inl ⟨(Or.inl q3141), qs85, ar189⟩⟩, trivial⟩
theorem vc_X6_235 : Fl2 (VC PP ynT ybT yrT yhT "BallotBusModel" 235 2) [(8, 190)] := ⟨⟨rfl, ce190, q3148, Or.inl ⟨(Or.inl q3146), qs86, ar190⟩⟩, trivial⟩
theorem vc_X6_239 : Fl2 (VC PP ynT ybT yrT yhT "BallotBusModel" 239 3) [(8, 191)] := ⟨⟨rfl, ce191, q3152, Or.inl ⟨(Or.inl q3150), qs87, ar191⟩⟩, trivial⟩
theorem vc_X6_243 : Fl2 (VC PP ynT ybT yrT yhT "BallotBusModel" 243 1) [(8, 194)] := ⟨⟨rfl, ce194, q3164, Or.inl ⟨(Or.inl q3162), qs88, ar194⟩⟩, trivial⟩
theorem vc_X6_246 : Fl2 (VC PP ynT ybT yrT yhT "BallotBusModel" 246 0) [(8, 195)] := ⟨⟨rfl, ce195, q3168, Or.inl ⟨(Or.inl q3166), qs89, ar195⟩⟩, trivial⟩
theorem vc_X6_262 : Fl2 (VC PP ynT ybT yrT yhT "BallotBusModel" 262 2) [(8, 197)] := ⟨⟨rfl, ce197, q3176, Or.inl ⟨(Or.inl q3174), qs90, ar197⟩⟩, trivial⟩
theorem vc_X6_265 : Fl2 (VC PP ynT ybT yrT yhT "BallotBusModel" 265 2) [(8, 200)] := ⟨⟨rfl, ce200, q3187, Or.inl ⟨(Or.inl q3185), qs92, ar200⟩⟩, trivial⟩
theorem vc_X6_256 : Fl2 (VC PP ynT ybT yrT yhT "BallotBusModel" 256 1) [(8, 198)] := ⟨⟨rfl, ce198, q3180, Or.inl ⟨(Or.inl q3178), qs91, ar198⟩⟩, trivial⟩
theorem vc_X6_273 : Fl2 (VC PP ynT ybT yrT yhT "BallotBusModel" 273 2) [(8, 204)] := ⟨⟨rfl, ce204, q3203, Or.inl ⟨(Or.inl q3201), qs93, ar204⟩⟩, trivial⟩
theorem vc_X6_278 : Fl2 (VC PP ynT ybT yrT yhT "BallotBusModel" 278 0) [(8, 207)] := ⟨⟨rfl, ce207, q3216, Or.inl ⟨(Or.inl q3214), qs94, ar207⟩⟩, trivial⟩
theorem vc_X6_283 : Fl2 (VC PP ynT ybT yrT yhT "BallotBusModel" 283 1) [(8, 209)] := ⟨⟨rfl, ce209, q3225, Or.inl ⟨(Or.inl q3223), qs95, ar209⟩⟩, trivial⟩
theorem vc_X6_288 : Fl2 (VC PP ynT ybT yrT yhT "BallotBusModel" 288 1) [(8, 211)] := ⟨⟨rfl, ce211, q3234, Or.inl ⟨(Or.inl q3232), qs96, ar211⟩⟩, trivial⟩
theorem vc_X6_291 : Fl2 (VC PP ynT ybT yrT yhT "BallotBusModel" 291 1) [(8, 212)] := ⟨⟨rfl, ce212, q3238, Or.inl ⟨(Or.inl q3236), qs97, ar212⟩⟩, trivial⟩
theorem vc_X6_294 : Fl2 (VC PP ynT ybT yrT yhT "BallotBusModel" 294 1) [(8, 213)] := ⟨⟨rfl, ce213, q3242, Or.inl ⟨(Or.inl q3240), qs98, ar213⟩⟩, trivial⟩
theorem vc_X6_301 : Fl2 (VC PP ynT ybT yrT yhT "BallotBusModel" 301 1) [(8, 228)] := ⟨⟨rfl, ce228, q3304, Or.inl ⟨(Or.inl q3302), qs99, ar228⟩⟩, trivial⟩
theorem vc_X6_304 : Fl2 (VC PP ynT ybT yrT yhT "BallotBusModel" 304 1) [(8, 231)] := ⟨⟨rfl, ce231, q3316, Or.inl ⟨(Or.inl q3314), qs100, ar231⟩⟩, trivial⟩
theorem vc_X6_307 : Fl2 (VC PP ynT ybT yrT yhT "BallotBusModel" 307 0) [(8, 233)] := ⟨⟨rfl, ce233, q3324, Or.inl ⟨(Or.inl q3322), qs101, ar233⟩⟩, trivial⟩
theorem vc_X6_310 : Fl2 (VC PP ynT ybT yrT yhT "BallotBusModel" 310 0) [(8, 234)] := ⟨⟨rfl, ce234, q3328, Or.inl ⟨(Or.inl q3326), qs102, ar234⟩⟩, trivial⟩
theorem vc_X6_313 : Fl2 (VC PP ynT ybT yrT yhT "BallotBusModel" 313 1) [(8, 239)] := ⟨⟨rfl, ce239, q3348, Or.inl ⟨(Or.inl q3346), qs103, ar239⟩⟩, trivial⟩
theorem vc_X6_316 : Fl2 (VC PP ynT ybT yrT yhT "BallotBusModel" 316 0) [(8, 241)] := ⟨⟨rfl, ce241, q3356, Or.inl ⟨(Or.inl q3354), qs104, ar241⟩⟩, trivial⟩
theorem vc_X6_319 : Fl2 (VC PP ynT ybT yrT yhT "BallotBusModel" 319 1) [(8, 242)] := ⟨⟨rfl, ce242, q3360, Or.inl ⟨(Or.inl q3358), qs105, ar242⟩⟩, trivial⟩
theorem vc_X6_322 : Fl2 (VC PP ynT ybT yrT yhT "BallotBusModel" 322 2) [(8, 244)] := ⟨⟨rfl, ce244, q3368, Or.inl ⟨(Or.inl q3366), qs106, ar244⟩⟩, trivial⟩
theorem vc_X6_325 : Fl2 (VC PP ynT ybT yrT yhT "BallotBusModel" 325 3) [(8, 246)] := ⟨⟨rfl, ce246, q3376, Or.inl ⟨(Or.inl q3374), qs107, ar246⟩⟩, trivial⟩
theorem vc_X6_395 : Fl2 (VC PP ynT ybT yrT yhT "BallotBusModel" 395 0) [(8, 254)] := ⟨⟨rfl, ce254, q3409, Or.inl ⟨(Or.inl q3407), qs108, ar254⟩⟩, trivial⟩
theorem vc_X6_392 : Fl2 (VC PP ynT ybT yrT yhT "BallotBusModel" 392 0) [(8, 258)] := ⟨⟨rfl, ce258, q3444, Or.inl ⟨(Or.inl q3442), qs112, ar258⟩⟩, trivial⟩
theorem vc_X6_451 : Fl2 (VC PP ynT ybT yrT yhT "BallotBusModel" 451 0) [(8, 259)] := ⟨⟨rfl, ce259, q3448, Or.inl ⟨(Or.inl q3446), qs113, ar259⟩⟩, trivial⟩
theorem vc_X6_398 : Fl2 (VC PP ynT ybT yrT yhT "BallotBusModel" 398 2) [(8, 262)] := ⟨⟨rfl, ce262, q3460, Or.inl ⟨(Or.inl q3458), qs116, ar262⟩⟩, trivial⟩
theorem vc_X6_339 : Fl2 (VC PP ynT ybT yrT yhT "BallotBusModel" 339 1) [(8, 255)] := ⟨⟨rfl, ce255, q3413, Or.inl ⟨(Or.inl q3411), qs109, ar255⟩⟩, trivial⟩
theorem vc_X6_355 : Fl2 (VC PP ynT ybT yrT yhT "BallotBusModel" 355 1) [(8, 256)] := ⟨⟨rfl, ce256, q3417, Or.inl ⟨(Or.inl q3415), qs110, ar256⟩⟩, trivial⟩
theorem vc_X6_366 : Fl2 (VC PP ynT ybT yrT yhT "BallotBusModel" 366 0) [(8, 257)] := ⟨⟨rfl, ce257, q3425, Or.inl ⟨(Or.inl q3423), qs111, ar257⟩⟩, trivial⟩
theorem vc_X6_381 : Fl2 (VC PP ynT ybT yrT yhT "BallotBusModel" 381 0) [(15, 366)] := ⟨⟨rfl, ce366, q1449, Or.inl ⟨(Or.inl q3428), q1450, ar366⟩⟩, trivial⟩
theorem vc_X6_385 : Fl2 (VC PP ynT ybT yrT yhT "BallotBusModel" 385 1) [(15, 371)] := ⟨⟨rfl, ce371, q3430, Or.inl ⟨(Or.inl q3429), q3431, ar371⟩⟩, trivial⟩
theorem vc_X6_415 : Fl2 (VC PP ynT ybT yrT yhT "BallotBusModel" 415 1) [(8, 260)] := ⟨⟨rfl, ce260, q3452, Or.inl ⟨(Or.inl q3450), qs114, ar260⟩⟩, trivial⟩
theorem vc_X6_435 : Fl2 (VC PP ynT ybT yrT yhT "BallotBusModel" 435 0) [(8, 261)] := ⟨⟨rfl, ce261, q3456, Or.inl ⟨(Or.inl q3454), qs115, ar261⟩⟩, trivial⟩
theorem vc_X6_438 : Fl2 (VC PP ynT ybT yrT yhT "BallotBusModel" 438 0) [(8, 267)] := ⟨⟨rfl, ce267, q3479, Or.inl ⟨(Or.inl q3477), qs120, ar267⟩⟩, trivial⟩
theorem vc_X6_441 : Fl2 (VC PP ynT ybT yrT yhT "BallotBusModel" 441 0) [(8, 269)] := ⟨⟨rfl, ce269, q3487, Or.inl ⟨(Or.inl q3485), qs122, ar269⟩⟩, trivial⟩
theorem vc_X6_444 : Fl2 (VC PP ynT ybT yrT yhT "BallotBusModel" 444 1) [(8, 271)] := ⟨⟨rfl, ce271, q3495, Or.inl ⟨(Or.inl q3493), qs124, ar271⟩⟩, trivial⟩
theorem vc_X6_402 : Fl2 (VC PP ynT ybT yrT yhT "BallotBusModel" 402 0) [(8, 263)] := ⟨⟨rfl, ce263, q3464, Or.inl ⟨(Or.inl q3462), qs117, ar263⟩⟩, trivial⟩
theorem vc_X6_411 : Fl2 (VC PP ynT ybT yrT yhT "BallotBusModel" 411 2) [(8, 264)] := ⟨⟨rfl, ce264, q3468, Or.inl ⟨(Or.inl q3466), qs118, ar264⟩⟩, trivial⟩
theorem vc_X6_405 : Fl2 (VC PP ynT ybT yrT yhT "BallotBusModel" 405 0) [(8, 265)] := ⟨⟨rfl, ce265, q3472, Or.inl ⟨(Or.inl q3470), qs119, ar265⟩⟩, trivial⟩
theorem vc_X6_418 : Fl2 (VC PP ynT ybT yrT yhT "BallotBusModel" 418 2) [(8, 268)] := ⟨⟨rfl, ce268, q3483, Or.inl ⟨(Or.inl q3481), qs121, ar268⟩⟩, trivial⟩
theorem vc_X6_431 : Fl2 (VC PP ynT ybT yrT yhT "BallotBusModel" 431 2) [(8, 270)] := ⟨⟨rfl, ce270, q3491, Or.inl ⟨(Or.inl q3489), qs123, ar270⟩⟩, trivial⟩
theorem vc_X6_425 : Fl2 (VC PP ynT ybT yrT yhT "BallotBusModel" 425 0) [(8, 272)] := ⟨⟨rfl, ce272, q3499, Or.inl ⟨(Or.inl q3497), qs125, ar272⟩⟩, trivial⟩
theorem vc_X6_428 : Fl2 (VC PP ynT ybT yrT yhT "BallotBusModel" 428 1) [(8, 273)] := ⟨⟨rfl, ce273, q3505, Or.inl ⟨(Or.inl q3503), qs126, ar273⟩⟩, trivial⟩
theorem vc_X6_465 : Fl2 (VC PP ynT ybT yrT yhT "BallotBusModel" 465 1) [(8, 278)] := ⟨⟨rfl, ce278, q3528, Or.inl ⟨(Or.inl q3526), qs127, ar278⟩⟩, trivial⟩
theorem vc_X6_461 : Fl2 (VC PP ynT ybT yrT yhT "BallotBusModel" 461 1) [(8, 279)] := ⟨⟨rfl, ce279, q3532, Or.inl ⟨(Or.inl q3530), qs128, ar279⟩⟩, trivial⟩
theorem vc_X7_81 : Fl2 (VC PP ynT ybT yrT yhT "BallotBus$Parser" 81 0) [(9, 282)] := ⟨⟨rfl, ce282, q1248, Or.inl ⟨(Or.inl q1246), qs13, ar282⟩⟩, trivial⟩
theorem vc_X7_95 : Fl2 (VC PP ynT ybT yrT yhT "BallotBus$Parser" 95 1) [(9, 283)] := ⟨⟨rfl, ce283, q1252, Or.inl ⟨(Or.inl q1250), qs14, ar283⟩⟩, trivial⟩
theorem vc_X7_115 : Fl2 (VC PP ynT ybT yrT yhT "BallotBus$Parser" 115 1) [(14, 350)] := ⟨⟨rfl, ce350, q1258, Or.inl ⟨(Or.inl q1257), q1259, ar350⟩⟩, trivial⟩
theorem vc_X7_119 : Fl2 (VC PP ynT ybT yrT yhT "BallotBus$Parser" 119 0) [(14, 351)] := ⟨⟨rfl, ce351, q1320, Or.inl ⟨(Or.inl q1319), q1321, ar351⟩⟩, trivial⟩
theorem vc_X7_254 : Fl2 (VC PP ynT ybT yrT yhT "BallotBus$Parser" 254 0) [(9, 285)] := ⟨⟨rfl, ce285, q1550, Or.inl ⟨(Or.inl q1548), qs16, ar285⟩⟩, trivial⟩
theorem vc_X7_132 : Fl2 (VC PP ynT ybT yrT yhT "BallotBus$Parser" 132 2) [(9, 287)] := ⟨⟨rfl, ce287, q1627, Or.inl ⟨(Or.inl q1625), qs18, ar287⟩⟩, trivial⟩
theorem vc_X7_159 : Fl2 (VC PP ynT ybT yrT yhT "BallotBus$Parser" 159 0) [(5, 110)] := ⟨⟨rfl, ce110, q381, Or.inl ⟨(Or.inl q1624), q382, ar110⟩⟩, trivial⟩
theorem vc_X7_178 : Fl2 (VC PP ynT ybT yrT yhT "BallotBus$Parser" 178 0) [(5, 112)] := ⟨⟨rfl, ce112, q858, Or.inl ⟨(Or.inl q1759), q859, ar112⟩⟩, trivial⟩
theorem vc_X7_226 : Fl2 (VC PP ynT ybT yrT yhT "BallotBus$Parser" 226 0) [(15, 368)] := ⟨⟨rfl, ce368, q1553, Or.inl ⟨(Or.inl q1552), q1554, ar368⟩⟩, trivial⟩
theorem vc_X7_128 : Fl2 (VC PP ynT ybT yrT yhT "BallotBus$Parser" 128 1) [(15, 370)] := ⟨⟨rfl, ce370, q1614, Or.inl ⟨(Or.inl q1613), q1615, ar370⟩⟩, trivial⟩
theorem vc_X7_229 : Fl2 (VC PP ynT ybT yrT yhT "BallotBus$Parser" 229 0) [(9, 286)] := ⟨⟨rfl, ce286, q1622, Or.inl ⟨(Or.inl q1620), qs17, ar286⟩⟩, trivial⟩
theorem vc_X7_232 : Fl2 (VC PP ynT ybT yrT yhT "BallotBus$Parser" 232 0) [(9, 291)] := ⟨⟨rfl, ce291, q1757, Or.inl ⟨(Or.inl q1755), qs22, ar291⟩⟩, trivial⟩
theorem vc_X7_235 : Fl2 (VC PP ynT ybT yrT yhT "BallotBus$Parser" 235 0) [(9, 293)] := ⟨⟨rfl, ce293, q1767, Or.inl ⟨(Or.inl q1765), qs24, ar293⟩⟩, trivial⟩
theorem vc_X7_238 : Fl2 (VC PP ynT ybT yrT yhT "BallotBus$Parser" 238 0) [(9, 295)] := ⟨⟨rfl, ce295, q1818, Or.inl ⟨(Or.inl q1816), qs26, ar295⟩⟩, trivial⟩
theorem vc_X7_241 : Fl2 (VC PP ynT ybT yrT yhT "BallotBus$Parser" 241 2) [(9, 297)] := ⟨⟨rfl, ce297, q1888, Or.inl ⟨(Or.inl q1886), qs31, ar297⟩⟩, trivial⟩
theorem vc_X7_166 : Fl2 (VC PP ynT ybT yrT yhT "BallotBus$Parser" 166 1) [(9, 288)] := ⟨⟨rfl, ce288, q1659, Or.inl ⟨(Or.inl q1657), qs19, ar288⟩⟩, trivial⟩
theorem vc_X7_170 : Fl2 (VC PP ynT ybT yrT yhT "BallotBus$Parser" 170 1) [(9, 290)] := ⟨⟨rfl, ce290, q1752, Or.inl ⟨(Or.inl q1750), qs21, ar290⟩⟩, trivial⟩
theorem vc_X7_174 : Fl2 (VC PP ynT ybT yrT yhT "BallotBus$Parser" 174 2) [(5, 109)] := ⟨⟨rfl, ce109, q377, Or.inl ⟨(Or.inl q1754), q378, ar109⟩⟩, trivial⟩
theorem vc_X7_142 : Fl2 (VC PP ynT ybT yrT yhT "BallotBus$Parser" 142 0) [(9, 289)] := ⟨⟨rfl, ce289, q1663, Or.inl ⟨(Or.inl q1661), qs20, ar289⟩⟩, trivial⟩
theorem vc_X7_145 : Fl2 (VC PP ynT ybT yrT yhT "BallotBus$Parser" 145 1) [(16, 413)] := ⟨⟨rfl, ce413, q1739, Or.inl ⟨(Or.inl q1738), q1740, ar413⟩⟩, trivial⟩
theorem vc_X7_136 : Fl2 (VC PP ynT ybT yrT yhT "BallotBus$Parser" 136 0) [(15, 366)] := ⟨⟨rfl, ce366, q1449, Or.inl ⟨(Or.inl q1665), q1450, ar366⟩⟩, trivial⟩
theorem fc_X7_139 : Fl2 (FC PP ynT ybT yrT yhT "BallotBus$Parser" 139 1) [(13, 321), (19, 493)] := ⟨⟨rfl, ce321, q1672, ⟨"java/util/List", "contains", "(Ljava/lang/Object;)Z"⟩, q1667, List.mem_of_getElem? (i := 24) rfl, q1670, by unfold arity; decide +kernel⟩, ⟨⟨rfl, ce493, q1720, ⟨"java/util/List", "contains", "(Ljava/lang/Object;)Z"⟩, q1667, List.mem_of_getElem? (i := 26) rfl, q1736, by unfold arity; decide +kernel⟩, trivial⟩⟩
theorem vc_X7_184 : Fl2 (VC PP ynT ybT yrT yhT "BallotBus$Parser" 184 2) [(9, 292)] := ⟨⟨rfl, ce292, q1762, Or.inl ⟨(Or.inl q1760), qs23, ar292⟩⟩, trivial⟩
theorem vc_X7_188 : Fl2 (VC PP ynT ybT yrT yhT "BallotBus$Parser" 188 3) [(5, 111)] := ⟨⟨rfl, ce111, q854, Or.inl ⟨(Or.inl q1764), q855, ar111⟩⟩, trivial⟩
theorem fc_X7_195 : Fl2 (FC PP ynT ybT yrT yhT "BallotBus$Parser" 195 0) [(13, 320), (19, 505)] := ⟨⟨rfl, ce320, q969, ⟨"java/util/List", "size", "()I"⟩, q1770, List.mem_of_getElem? (i := 42) rfl, q967, by unfold arity; decide +kernel⟩, ⟨⟨rfl, ce505, q979, ⟨"java/util/List", "size", "()I"⟩, q1770, List.mem_of_getElem? (i := 44) rfl, q977, by unfold arity; decide +kernel⟩, trivial⟩⟩
theorem vc_X7_198 : Fl2 (VC PP ynT ybT yrT yhT "BallotBus$Parser" 198 1) [(9, 294)] := ⟨⟨rfl, ce294, q1773, Or.inl ⟨(Or.inl q1771), qs25, ar294⟩⟩, trivial⟩
theorem fc_X7_207 : Fl2 (FC PP ynT ybT yrT yhT "BallotBus$Parser" 207 1) [(13, 314), (19, 488)] := ⟨⟨rfl, ce314, q395, ⟨"java/util/List", "add", "(Ljava/lang/Object;)Z"⟩, q1815, List.mem_of_getElem? (i := 15) rfl, q393, by unfold arity; decide +kernel⟩, ⟨⟨rfl, ce488, q476, ⟨"java/util/List", "add", "(Ljava/lang/Object;)Z"⟩, q1815, List.mem_of_getElem? (i := 17) rfl, q480, by unfold arity; decide +kernel⟩, trivial⟩⟩
theorem vc_X7_150 : Fl2 (VC PP ynT ybT yrT yhT "BallotBus$Parser" 150 1) [(16, 416)] := ⟨⟨rfl, ce416, q1776, Or.inl ⟨(Or.inl q1775), q1777, ar416⟩⟩, trivial⟩
theorem vc_X7_156 : Fl2 (VC PP ynT ybT yrT yhT "BallotBus$Parser" 156 0) [(17, 450)] := ⟨⟨rfl, ce450, q1709, Or.inl ⟨(Or.inl q1780), q1710, ar450⟩⟩, trivial⟩
theorem vc_X7_221 : Fl2 (VC PP ynT ybT yrT yhT "BallotBus$Parser" 221 0) [(9, 296)] := ⟨⟨rfl, ce296, q1822, Or.inl ⟨(Or.inl q1820), qs27, ar296⟩⟩, trivial⟩
theorem fc_X7_210 : Fl2 (FC PP ynT ybT yrT yhT "BallotBus$Parser" 210 1) [(13, 322), (19, 507)] := ⟨⟨rfl, ce322, q1676, ⟨"java/util/List", "indexOf", "(Ljava/lang/Object;)I"⟩, q1825, List.mem_of_getElem? (i := 30) rfl, q1827, by unfold arity; decide +kernel⟩, ⟨⟨rfl, ce507, q1730, ⟨"java/util/List", "indexOf", "(Ljava/lang/Object;)I"⟩, q1825, List.mem_of_getElem? (i := 32) rfl, q1729, by unfold arity; decide +kernel⟩, trivial⟩⟩
theorem vc_X7_214 : Fl2 (VC PP ynT ybT yrT yhT "BallotBus$Parser" 214 1) [(20, 513)] := ⟨⟨rfl, ce513, q1835, Or.inl ⟨(Or.inl q1834), q1836, ar513⟩⟩, trivial⟩
theorem vc_X7_217 : Fl2 (VC PP ynT ybT yrT yhT "BallotBus$Parser" 217 1) [(20, 515)] := ⟨⟨rfl, ce515, q1866, Or.inl ⟨(Or.inl q1865), q1867, ar515⟩⟩, trivial⟩
theorem vc_X10_31 : Fl2 (VC PP ynT ybT yrT yhT "BallotBus$ByMeasure" 31 2) [(12, 301)] := ⟨⟨rfl, ce301, q782, Or.inl ⟨(Or.inl q781), q783, ar301⟩⟩, trivial⟩
theorem vc_X11_7 : Fl2 (VC PP ynT ybT yrT yhT "BallotBus$Tally$3" 7 1) [(7, 141)] := ⟨⟨rfl, ce141, q1969, Or.inl ⟨(Or.inl q2037), q1970, ar141⟩⟩, trivial⟩
theorem vc_X11_19 : Fl2 (VC PP ynT ybT yrT yhT "BallotBus$Tally$3" 19 3) [(2, 304), (3, 305), (4, 303)] := ⟨⟨rfl, ce304, q2029, Or.inr ⟨⟨"BallotBus$Tally", "more", "(LBallotBus$Sheet;II)I"⟩, "BallotBus$Tally", (Or.inl q2041), (Or.inl q2027), (Or.inr (List.mem_of_getElem? (i := 19) rfl)), ⟨by decide, by decide⟩, Or.inl q2028, by unfold arity; decide +kernel⟩⟩, ⟨⟨rfl, ce305, q2032, Or.inr ⟨⟨"BallotBus$Tally", "more", "(LBallotBus$Sheet;II)I"⟩, "BallotBus$Tally", (Or.inl q2041), (Or.inl q2027), (Or.inr (List.mem_of_getElem? (i := 19) rfl)), ⟨by decide, by decide⟩, Or.inl q2031, by unfold arity; decide +kernel⟩⟩, ⟨⟨rfl, ce303, q2035, Or.inr ⟨⟨"BallotBus$Tally", "more", "(LBallotBus$Sheet;II)I"⟩, "BallotBus$Tally", (Or.inl q2041), (Or.inl q2027), (Or.inr (List.mem_of_getElem? (i := 19) rfl)), ⟨by decide, by decide⟩, Or.inl q2034, by unfold arity; decide +kernel⟩⟩, trivial⟩⟩⟩
theorem vc_J0_101 : Fl2 (VC PP ynT ybT yrT yhT "java/lang/Enum" 101 1) [(2, 307), (3, 307), (4, 307)] := ⟨⟨rfl, ce307, q531, Or.inl ⟨(Or.inl q530), q533, ar307⟩⟩, ⟨⟨rfl, ce307, q531, Or.inl ⟨(Or.inl q530), q534, ar307⟩⟩, ⟨⟨rfl, ce307, q531, Or.inl ⟨(Or.inl q530), q535, ar307⟩⟩, trivial⟩⟩⟩
theorem vc_J0_33 : Fl2 (VC PP ynT ybT yrT yhT "java/lang/Enum" 33 0) [(2, 308), (3, 308), (4, 308)] := ⟨⟨rfl, ce308, q539, Or.inl ⟨(Or.inl q538), q541, ar308⟩⟩, ⟨⟨rfl, ce308, q539, Or.inl ⟨(Or.inl q538), q542, ar308⟩⟩, ⟨⟨rfl, ce308, q539, Or.inl ⟨(Or.inl q538), q543, ar308⟩⟩, trivial⟩⟩⟩
theorem vc_J3_131 : Fl2 (VC PP ynT ybT yrT yhT "java/util/ArrayList" 131 3) [(13, 315)] := ⟨⟨rfl, ce315, q400, Or.inl ⟨(Or.inl q398), qs0, ar315⟩⟩, trivial⟩
theorem vc_J3_129 : Fl2 (VC PP ynT ybT yrT yhT "java/util/ArrayList" 129 0) [(13, 316)] := ⟨⟨rfl, ce316, q404, Or.inl ⟨(Or.inl q402), qs1, ar316⟩⟩, trivial⟩
theorem vc_J3_69 : Fl2 (VC PP ynT ybT yrT yhT "java/util/ArrayList" 69 1) [(13, 317)] := ⟨⟨rfl, ce317, q408, Or.inl ⟨(Or.inl q406), qs2, ar317⟩⟩, trivial⟩
theorem fc_J3_42 : Fl2 (FC PP ynT ybT yrT yhT "java/util/ArrayList" 42 0) [(13, 319), (19, 504), (22, 542)] := ⟨⟨rfl, ce319, q929, ⟨"java/util/Collection", "toArray", "()[Ljava/lang/Object;"⟩, q923, List.mem_of_getElem? (i := 6) rfl, q927, by unfold arity; decide +kernel⟩, ⟨⟨rfl, ce504, q944, ⟨"java/util/Collection", "toArray", "()[Ljava/lang/Object;"⟩, q923, List.mem_of_getElem? (i := 8) rfl, q942, by unfold arity; decide +kernel⟩, ⟨⟨rfl, ce542, q951, ⟨"java/util/Collection", "toArray", "()[Ljava/lang/Object;"⟩, q923, List.mem_of_getElem? (i := 9) rfl, q949, by unfold arity; decide +kernel⟩, trivial⟩⟩⟩
theorem vc_J3_85 : Fl2 (VC PP ynT ybT yrT yhT "java/util/ArrayList" 85 1) [(13, 322)] := ⟨⟨rfl, ce322, q1676, Or.inl ⟨(Or.inl q1675), q1677, ar322⟩⟩, trivial⟩
theorem vc_J3_89 : Fl2 (VC PP ynT ybT yrT yhT "java/util/ArrayList" 89 3) [(13, 323)] := ⟨⟨rfl, ce323, q1680, Or.inl ⟨(Or.inl q1679), q1681, ar323⟩⟩, trivial⟩
theorem vc_J3_93 : Fl2 (VC PP ynT ybT yrT yhT "java/util/ArrayList" 93 1) [(2, 309), (3, 309), (4, 309), (15, 370), (17, 449)] := ⟨⟨rfl, ce309, q1696, Or.inr ⟨⟨"java/lang/Object", "equals", "(Ljava/lang/Object;)Z"⟩, "java/lang/Object", (Or.inl q1684), (Or.inl q1686), (Or.inl ⟨q1685, _, _, _, q1717⟩), ⟨by decide, by decide⟩, Or.inl q1695, by unfold arity; decide +kernel⟩⟩, ⟨⟨rfl, ce309, q1696, Or.inr ⟨⟨"java/lang/Object", "equals", "(Ljava/lang/Object;)Z"⟩, "java/lang/Object", (Or.inl q1684), (Or.inl q1686), (Or.inl ⟨q1685, _, _, _, q1717⟩), ⟨by decide, by decide⟩, Or.inl q1698, by unfold arity; decide +kernel⟩⟩, ⟨⟨rfl, ce309, q1696, Or.inr ⟨⟨"java/lang/Object", "equals", "(Ljava/lang/Object;)Z"⟩, "java/lang/Object", (Or.inl q1684), (Or.inl q1686), (Or.inl ⟨q1685, _, _, _, q1717⟩), ⟨by decide, by decide⟩, Or.inl q1699, by unfold arity; decide +kernel⟩⟩, ⟨⟨rfl, ce370, q1614, Or.inr ⟨⟨"java/lang/Object", "equals", "(Ljava/lang/Object;)Z"⟩, "java/lang/Object", (Or.inl q1684), (Or.inl q1686), (Or.inl ⟨q1685, _, _, _, q1717⟩), ⟨by decide, by decide⟩, Or.inl q1712, by unfold arity; decide +kernel⟩⟩, ⟨⟨rfl, ce449, q1706, Or.inr ⟨⟨"java/lang/Object", "equals", "(Ljava/lang/Object;)Z"⟩, "java/lang/Object", (Or.inl q1684), (Or.inl q1686), (Or.inl ⟨q1685, _, _, _, q1717⟩), ⟨by decide, by decide⟩, Or.inl q1705, by unfold arity; decide +kernel⟩⟩, trivial⟩⟩⟩⟩⟩
theorem vc_J3_123 : Fl2 (VC PP ynT ybT yrT yhT "java/util/ArrayList" 123 1) [(13, 326)] := ⟨⟨rfl, ce326, q2073, Or.inl ⟨(Or.inl q2072), q2074, ar326⟩⟩, trivial⟩
theorem vc_J3_144 : Fl2 (VC PP ynT ybT yrT yhT "java/util/ArrayList" 144 2) [(13, 328)] := ⟨⟨rfl, ce328, q2128, Or.inl ⟨(Or.inl q2126), qs36, ar328⟩⟩, trivial⟩
theorem vc_J4_83 : Fl2 (VC PP ynT ybT yrT yhT "java/lang/AbstractStringBuilder" 83 0) [(14, 333)] := ⟨⟨rfl, ce333, q743, Or.inl ⟨(Or.inl q742), q745, ar333⟩⟩, trivial⟩
theorem vc_J4_32 : Fl2 (VC PP ynT ybT yrT yhT "java/lang/AbstractStringBuilder" 32 0) [(15, 366)] := ⟨⟨rfl, ce366, q1449, Or.inl ⟨(Or.inl q1448), q1450, ar366⟩⟩, trivial⟩
theorem vc_J4_399 : Fl2 (VC PP ynT ybT yrT yhT "java/lang/AbstractStringBuilder" 399 3) [(15, 367)] := ⟨⟨rfl, ce367, q1462, Or.inl ⟨(Or.inl q1461), q1463, ar367⟩⟩, trivial⟩
theorem vc_J4_40 : Fl2 (VC PP ynT ybT yrT yhT "java/lang/AbstractStringBuilder" 40 0) [(15, 359)] := ⟨⟨rfl, ce359, q576, Or.inl ⟨(Or.inl q1460), q577, ar359⟩⟩, trivial⟩
theorem vc_J5_346 : Fl2 (VC PP ynT ybT yrT yhT "java/lang/StringBuilder" 346 1) [(14, 349)] := ⟨⟨rfl, ce349, q736, Or.inl ⟨(Or.inl q735), q737, ar349⟩⟩, trivial⟩
theorem vc_J6_1084 : Fl2 (VC PP ynT ybT yrT yhT "java/lang/String" 1084 1) [(15, 358)] := ⟨⟨rfl, ce358, q572, Or.inl ⟨(Or.inl q571), q573, ar358⟩⟩, trivial⟩
theorem vc_J6_335 : Fl2 (VC PP ynT ybT yrT yhT "java/lang/String" 335 0) [(15, 359)] := ⟨⟨rfl, ce359, q576, Or.inl ⟨(Or.inl q575), q577, ar359⟩⟩, trivial⟩
theorem vc_J6_552 : Fl2 (VC PP ynT ybT yrT yhT "java/lang/String" 552 0) [(14, 338)] := ⟨⟨rfl, ce338, q1333, Or.inl ⟨(Or.inl q1332), q1335, ar338⟩⟩, trivial⟩
theorem vc_J6_549 : Fl2 (VC PP ynT ybT yrT yhT "java/lang/String" 549 0) [(14, 352)] := ⟨⟨rfl, ce352, q1341, Or.inr ⟨⟨"java/lang/AbstractStringBuilder", "length", "()I"⟩, "java/lang/AbstractStringBuilder", (Or.inl q1337), (Or.inl q1339), (Or.inl ⟨q1338, _, _, _, q1344⟩), ⟨by decide, by decide⟩, Or.inl q1340, by unfold arity; decide +kernel⟩⟩, trivial⟩
theorem vc_J6_1047 : Fl2 (VC PP ynT ybT yrT yhT "java/lang/String" 1047 0) [(14, 333)] := ⟨⟨rfl, ce333, q743, Or.inl ⟨(Or.inl q1345), q745, ar333⟩⟩, trivial⟩
theorem vc_J6_492 : Fl2 (VC PP ynT ybT yrT yhT "java/lang/String" 492 0) [(15, 369)] := ⟨⟨rfl, ce369, q1557, Or.inl ⟨(Or.inl q1556), q1558, ar369⟩⟩, trivial⟩
theorem vc_J9_127 : Fl2 (VC PP ynT ybT yrT yhT "java/util/TreeMap" 127 3) [(16, 401)] := ⟨⟨rfl, ce401, q508, Or.inl ⟨(Or.inl q506), qs3, ar401⟩⟩, trivial⟩
theorem vc_J9_135 : Fl2 (VC PP ynT ybT yrT yhT "java/util/TreeMap" 135 2) [(16, 402)] := ⟨⟨rfl, ce402, q512, Or.inl ⟨(Or.inl q510), qs4, ar402⟩⟩, trivial⟩
theorem fc_J9_117 : Fl2 (FC PP ynT ybT yrT yhT "java/util/TreeMap" 117 2) [(12, 300)] := ⟨⟨rfl, ce300, q777, ⟨"java/util/Comparator", "compare", "(Ljava/lang/Object;Ljava/lang/Object;)I"⟩, q771, List.mem_of_getElem? (i := 10) rfl, q775, by unfold arity; decide +kernel⟩, trivial⟩
theorem fc_J9_107 : Fl2 (FC PP ynT ybT yrT yhT "java/util/TreeMap" 107 1) [(2, 306), (3, 306), (4, 306), (14, 348), (15, 357), (17, 442)] := ⟨⟨rfl, ce306, q526, ⟨"java/lang/Comparable", "compareTo", "(Ljava/lang/Object;)I"⟩, q520, List.mem_of_getElem? (i := 0) rfl, q524, by unfold arity; decide +kernel⟩, ⟨⟨rfl, ce306, q526, ⟨"java/lang/Comparable", "compareTo", "(Ljava/lang/Object;)I"⟩, q520, List.mem_of_getElem? (i := 1) rfl, q546, by unfold arity; decide +kernel⟩, ⟨⟨rfl, ce306, q526, ⟨"java/lang/Comparable", "compareTo", "(Ljava/lang/Object;)I"⟩, q520, List.mem_of_getElem? (i := 2) rfl, q549, by unfold arity; decide +kernel⟩, ⟨⟨rfl, ce348, q731, ⟨"java/lang/Comparable", "compareTo", "(Ljava/lang/Object;)I"⟩, q520, List.mem_of_getElem? (i := 5) rfl, q729, by unfold arity; decide +kernel⟩, ⟨⟨rfl, ce357, q567, ⟨"java/lang/Comparable", "compareTo", "(Ljava/lang/Object;)I"⟩, q520, List.mem_of_getElem? (i := 4) rfl, q565, by unfold arity; decide +kernel⟩, ⟨⟨rfl, ce442, q554, ⟨"java/lang/Comparable", "compareTo", "(Ljava/lang/Object;)I"⟩, q520, List.mem_of_getElem? (i := 3) rfl, q552, by unfold arity; decide +kernel⟩, trivial⟩⟩⟩⟩⟩⟩
theorem vc_J9_139 : Fl2 (VC PP ynT ybT yrT yhT "java/util/TreeMap" 139 4) [(16, 404)] := ⟨⟨rfl, ce404, q824, Or.inl ⟨(Or.inl q822), qs5, ar404⟩⟩, trivial⟩
theorem vc_J9_123 : Fl2 (VC PP ynT ybT yrT yhT "java/util/TreeMap" 123 2) [(16, 403)] := ⟨⟨rfl, ce403, q515, Or.inl ⟨(Or.inl q514), q516, ar403⟩⟩, trivial⟩
theorem vc_J9_170 : Fl2 (VC PP ynT ybT yrT yhT "java/util/TreeMap" 170 1) [(16, 405)] := ⟨⟨rfl, ce405, q828, Or.inl ⟨(Or.inl q826), qs6, ar405⟩⟩, trivial⟩
theorem vc_J9_311 : Fl2 (VC PP ynT ybT yrT yhT "java/util/TreeMap" 311 1) [(16, 411)] := ⟨⟨rfl, ce411, q847, Or.inl ⟨(Or.inl q845), qs7, ar411⟩⟩, trivial⟩
theorem vc_J9_314 : Fl2 (VC PP ynT ybT yrT yhT "java/util/TreeMap" 314 1) [(16, 412)] := ⟨⟨rfl, ce412, q851, Or.inl ⟨(Or.inl q849), qs8, ar412⟩⟩, trivial⟩
theorem vc_J9_50 : Fl2 (VC PP ynT ybT yrT yhT "java/util/TreeMap" 50 1) [(16, 414)] := ⟨⟨rfl, ce414, q1743, Or.inl ⟨(Or.inl q1742), q1744, ar414⟩⟩, trivial⟩
theorem vc_J9_92 : Fl2 (VC PP ynT ybT yrT yhT "java/util/TreeMap" 92 1) [(16, 415)] := ⟨⟨rfl, ce415, q1747, Or.inl ⟨(Or.inl q1746), q1748, ar415⟩⟩, trivial⟩
theorem vc_J10_94 : Fl2 (VC PP ynT ybT yrT yhT "jdk/internal/util/ArraysSupport" 94 1) [(14, 354)] := ⟨⟨rfl, ce354, q1435, Or.inl ⟨(Or.inl q1605), q1436, ar354⟩⟩, trivial⟩
theorem vc_J10_98 : Fl2 (VC PP ynT ybT yrT yhT "jdk/internal/util/ArraysSupport" 98 1) [(14, 353)] := ⟨⟨rfl, ce353, q1403, Or.inl ⟨(Or.inl q1606), q1404, ar353⟩⟩, trivial⟩
theorem vc_J10_101 : Fl2 (VC PP ynT ybT yrT yhT "jdk/internal/util/ArraysSupport" 101 0) [(14, 351)] := ⟨⟨rfl, ce351, q1320, Or.inl ⟨(Or.inl q1607), q1321, ar351⟩⟩, trivial⟩
theorem vc_J12_54 : Fl2 (VC PP ynT ybT yrT yhT "java/util/Arrays" 54 1) [(14, 353)] := ⟨⟨rfl, ce353, q1403, Or.inl ⟨(Or.inl q1402), q1404, ar353⟩⟩, trivial⟩
theorem vc_J12_50 : Fl2 (VC PP ynT ybT yrT yhT "java/util/Arrays" 50 1) [(14, 354)] := ⟨⟨rfl, ce354, q1435, Or.inl ⟨(Or.inl q1434), q1436, ar354⟩⟩, trivial⟩
theorem vc_J12_61 : Fl2 (VC PP ynT ybT yrT yhT "java/util/Arrays" 61 0) [(14, 351)] := ⟨⟨rfl, ce351, q1320, Or.inl ⟨(Or.inl q1467), q1321, ar351⟩⟩, trivial⟩
theorem vc_J14_284 : Fl2 (VC PP ynT ybT yrT yhT "java/lang/Integer" 284 1) [(17, 443)] := ⟨⟨rfl, ce443, q558, Or.inl ⟨(Or.inl q557), q559, ar443⟩⟩, trivial⟩
theorem vc_J14_211 : Fl2 (VC PP ynT ybT yrT yhT "java/lang/Integer" 211 0) [(17, 450)] := ⟨⟨rfl, ce450, q1709, Or.inl ⟨(Or.inl q1708), q1710, ar450⟩⟩, trivial⟩
theorem vc_J20_14 : Fl2 (VC PP ynT ybT yrT yhT "java/util/Objects" 14 1) [(2, 309), (3, 309), (4, 309), (15, 370), (17, 449)] := ⟨⟨rfl, ce309, q1696, Or.inr ⟨⟨"java/lang/Object", "equals", "(Ljava/lang/Object;)Z"⟩, "java/lang/Object", (Or.inl q1735), (Or.inl q1686), (Or.inl ⟨q1685, _, _, _, q1717⟩), ⟨by decide, by decide⟩, Or.inl q1695, by unfold arity; decide +kernel⟩⟩, ⟨⟨rfl, ce309, q1696, Or.inr ⟨⟨"java/lang/Object", "equals", "(Ljava/lang/Object;)Z"⟩, "java/lang/Object", (Or.inl q1735), (Or.inl q1686), (Or.inl ⟨q1685, _, _, _, q1717⟩), ⟨by decide, by decide⟩, Or.inl q1698, by unfold arity; decide +kernel⟩⟩, ⟨⟨rfl, ce309, q1696, Or.inr ⟨⟨"java/lang/Object", "equals", "(Ljava/lang/Object;)Z"⟩, "java/lang/Object", (Or.inl q1735), (Or.inl q1686), (Or.inl ⟨q1685, _, _, _, q1717⟩), ⟨by decide, by decide⟩, Or.inl q1699, by unfold arity; decide +kernel⟩⟩, ⟨⟨rfl, ce370, q1614, Or.inr ⟨⟨"java/lang/Object", "equals", "(Ljava/lang/Object;)Z"⟩, "java/lang/Object", (Or.inl q1735), (Or.inl q1686), (Or.inl ⟨q1685, _, _, _, q1717⟩), ⟨by decide, by decide⟩, Or.inl q1712, by unfold arity; decide +kernel⟩⟩, ⟨⟨rfl, ce449, q1706, Or.inr ⟨⟨"java/lang/Object", "equals", "(Ljava/lang/Object;)Z"⟩, "java/lang/Object", (Or.inl q1735), (Or.inl q1686), (Or.inl ⟨q1685, _, _, _, q1717⟩), ⟨by decide, by decide⟩, Or.inl q1705, by unfold arity; decide +kernel⟩⟩, trivial⟩⟩⟩⟩⟩
theorem vc_J24_107 : Fl2 (VC PP ynT ybT yrT yhT "java/util/ImmutableCollections$AbstractImmutableList" 107 1) [(13, 322), (19, 507)] := ⟨⟨rfl, ce322, q1676, Or.inr ⟨⟨"java/util/ImmutableCollections$AbstractImmutableList", "indexOf", "(Ljava/lang/Object;)I"⟩, "java/util/List", (Or.inr (List.mem_of_getElem? (i := 0) rfl)), (Or.inr (List.mem_of_getElem? (i := 1) rfl)), (Or.inr (List.mem_of_getElem? (i := 16) rfl)), ⟨by decide, by decide⟩, Or.inr q1827, by unfold arity; decide +kernel⟩⟩, ⟨⟨rfl, ce507, q1730, Or.inr ⟨⟨"java/util/ImmutableCollections$AbstractImmutableList", "indexOf", "(Ljava/lang/Object;)I"⟩, "java/util/List", (Or.inr (List.mem_of_getElem? (i := 0) rfl)), (Or.inr (List.mem_of_getElem? (i := 1) rfl)), (Or.inr (List.mem_of_getElem? (i := 16) rfl)), ⟨by decide, by decide⟩, Or.inr q1729, by unfold arity; decide +kernel⟩⟩, trivial⟩⟩
theorem vc_J24_13 : Fl2 (VC PP ynT ybT yrT yhT "java/util/ImmutableCollections$AbstractImmutableList" 13 0) [(19, 505)] := ⟨⟨rfl, ce505, q979, Or.inr ⟨⟨"java/util/ImmutableCollections$AbstractImmutableList", "size", "()I"⟩, "java/util/AbstractCollection", (Or.inl q2094), (Or.inl q2095), (Or.inr (List.mem_of_getElem? (i := 22) rfl)), ⟨by decide, by decide⟩, Or.inl q2098, by unfold arity; decide +kernel⟩⟩, trivial⟩
theorem vc_J27_27 : Fl2 (VC PP ynT ybT yrT yhT "java/util/BitSet" 27 1) [(20, 511)] := ⟨⟨rfl, ce511, q1229, Or.inl ⟨(Or.inl q1227), qs12, ar511⟩⟩, trivial⟩
theorem vc_J27_38 : Fl2 (VC PP ynT ybT yrT yhT "java/util/BitSet" 38 1) [(14, 354)] := ⟨⟨rfl, ce354, q1435, Or.inl ⟨(Or.inl q1850), q1436, ar354⟩⟩, trivial⟩
theorem vc_J27_42 : Fl2 (VC PP ynT ybT yrT yhT "java/util/BitSet" 42 1) [(14, 353)] := ⟨⟨rfl, ce353, q1403, Or.inl ⟨(Or.inl q1851), q1404, ar353⟩⟩, trivial⟩
theorem vc_J27_45 : Fl2 (VC PP ynT ybT yrT yhT "java/util/BitSet" 45 0) [(14, 351)] := ⟨⟨rfl, ce351, q1320, Or.inl ⟨(Or.inl q1852), q1321, ar351⟩⟩, trivial⟩
theorem vc_J27_56 : Fl2 (VC PP ynT ybT yrT yhT "java/util/BitSet" 56 0) [(20, 514)] := ⟨⟨rfl, ce514, q1861, Or.inl ⟨(Or.inl q1859), qs28, ar514⟩⟩, trivial⟩
theorem vc_J27_155 : Fl2 (VC PP ynT ybT yrT yhT "java/util/BitSet" 155 1) [(20, 516)] := ⟨⟨rfl, ce516, q1871, Or.inl ⟨(Or.inl q1869), qs29, ar516⟩⟩, trivial⟩
theorem vc_J27_139 : Fl2 (VC PP ynT ybT yrT yhT "java/util/BitSet" 139 1) [(20, 517)] := ⟨⟨rfl, ce517, q1875, Or.inl ⟨(Or.inl q1873), qs30, ar517⟩⟩, trivial⟩
theorem vc_J34_31 : Fl2 (VC PP ynT ybT yrT yhT "java/util/ArrayList$Itr" 31 0) [(21, 535)] := ⟨⟨rfl, ce535, q2347, Or.inl ⟨(Or.inl q2346), q2348, ar535⟩⟩, trivial⟩
theorem vc_J37_20 : Fl2 (VC PP ynT ybT yrT yhT "java/util/AbstractQueue" 20 0) [(22, 552)] := ⟨⟨rfl, ce552, q2517, Or.inr ⟨⟨"java/util/AbstractQueue", "poll", "()Ljava/lang/Object;"⟩, "java/util/Queue", (Or.inr (List.mem_of_getElem? (i := 2) rfl)), (Or.inr (List.mem_of_getElem? (i := 3) rfl)), (Or.inr (List.mem_of_getElem? (i := 30) rfl)), ⟨by decide, by decide⟩, Or.inr q2516, by unfold arity; decide +kernel⟩⟩, trivial⟩
theorem vc_J38_89 : Fl2 (VC PP ynT ybT yrT yhT "java/util/PriorityQueue" 89 1) [(22, 546)] := ⟨⟨rfl, ce546, q2481, Or.inl ⟨(Or.inl q2480), q2482, ar546⟩⟩, trivial⟩
theorem vc_J38_96 : Fl2 (VC PP ynT ybT yrT yhT "java/util/PriorityQueue" 96 1) [(22, 547)] := ⟨⟨rfl, ce547, q2486, Or.inl ⟨(Or.inl q2484), qs42, ar547⟩⟩, trivial⟩
theorem vc_J38_100 : Fl2 (VC PP ynT ybT yrT yhT "java/util/PriorityQueue" 100 2) [(22, 548)] := ⟨⟨rfl, ce548, q2491, Or.inl ⟨(Or.inl q2489), qs43, ar548⟩⟩, trivial⟩
theorem fc_J38_149 : Fl2 (FC PP ynT ybT yrT yhT "java/util/PriorityQueue" 149 2) [(12, 300)] := ⟨⟨rfl, ce300, q777, ⟨"java/util/Comparator", "compare", "(Ljava/lang/Object;Ljava/lang/Object;)I"⟩, q2497, List.mem_of_getElem? (i := 10) rfl, q775, by unfold arity; decide +kernel⟩, trivial⟩
theorem fc_J38_146 : Fl2 (FC PP ynT ybT yrT yhT "java/util/PriorityQueue" 146 1) [(2, 306), (3, 306), (4, 306), (14, 348), (15, 357), (17, 442)] := ⟨⟨rfl, ce306, q526, ⟨"java/lang/Comparable", "compareTo", "(Ljava/lang/Object;)I"⟩, q2503, List.mem_of_getElem? (i := 0) rfl, q524, by unfold arity; decide +kernel⟩, ⟨⟨rfl, ce306, q526, ⟨"java/lang/Comparable", "compareTo", "(Ljava/lang/Object;)I"⟩, q2503, List.mem_of_getElem? (i := 1) rfl, q546, by unfold arity; decide +kernel⟩, ⟨⟨rfl, ce306, q526, ⟨"java/lang/Comparable", "compareTo", "(Ljava/lang/Object;)I"⟩, q2503, List.mem_of_getElem? (i := 2) rfl, q549, by unfold arity; decide +kernel⟩, ⟨⟨rfl, ce348, q731, ⟨"java/lang/Comparable", "compareTo", "(Ljava/lang/Object;)I"⟩, q2503, List.mem_of_getElem? (i := 5) rfl, q729, by unfold arity; decide +kernel⟩, ⟨⟨rfl, ce357, q567, ⟨"java/lang/Comparable", "compareTo", "(Ljava/lang/Object;)I"⟩, q2503, List.mem_of_getElem? (i := 4) rfl, q565, by unfold arity; decide +kernel⟩, ⟨⟨rfl, ce442, q554, ⟨"java/lang/Comparable", "compareTo", "(Ljava/lang/Object;)I"⟩, q2503, List.mem_of_getElem? (i := 3) rfl, q552, by unfold arity; decide +kernel⟩, trivial⟩⟩⟩⟩⟩⟩
